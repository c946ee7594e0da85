/-! rows of fields, printed -/
set_option maxRecDepth 100000
theorem fits_nar_z (v : Int32) : fits .boolean (narrow .boolean (.int v)) = true := by
  show ((v &&& 1) == 0 || (v &&& 1) == 1) = true
  have h : (v &&& 1).toBitVec.toNat = v.toBitVec.toNat % 2 := by
    rw [Int32.toBitVec_and, BitVec.toNat_and]
    exact Nat.and_one_is_mod _
  rcases Nat.mod_two_eq_zero_or_one v.toBitVec.toNat with h2 | h2
  · have e : v &&& 1 = 0 := by
      apply Int32.toBitVec_inj.mp
      apply BitVec.eq_of_toNat_eq
      rw [h, h2]; rfl
    rw [e]; rfl
  · have e : v &&& 1 = 1 := by
      apply Int32.toBitVec_inj.mp
      apply BitVec.eq_of_toNat_eq
      rw [h, h2]; rfl
    rw [e]; rfl
theorem fits_nar_b (v : Int32) : fits .byte (narrow .byte (.int v)) = true := by
  show ((-128 : Int32) ≤ v.toInt8.toInt32 && v.toInt8.toInt32 ≤ 127) = true
  have h1 := Int8.le_toInt v.toInt8
  have h2 := Int8.toInt_lt v.toInt8
  have e : v.toInt8.toInt32.toInt = v.toInt8.toInt := Int8.toInt_toInt32 _
  have a1 : (-128 : Int32) ≤ v.toInt8.toInt32 := by
    rw [Int32.le_iff_toInt_le, e]
    have : (-128 : Int32).toInt = -128 := by decide
    omega
  have a2 : v.toInt8.toInt32 ≤ (127 : Int32) := by
    rw [Int32.le_iff_toInt_le, e]
    have : (127 : Int32).toInt = 127 := by decide
    omega
  simp [a1, a2]
def hoIs (S : hH) (a : Nat) (cs : List Nat) (k : Nat) : Prop := ∃ ci, ci ∈ cs ∧ hoI S a ci k
def hoJs (S : hH) (a : Nat) (cs : List Nat) (k : Nat) : Prop := ∃ ci, ci ∈ cs ∧ hoJ S a ci k
def hoRs (S : hH) (a : Nat) (cs : List Nat) (k : Nat) : Prop := ∃ ci, ci ∈ cs ∧ hoR S a ci k
def hoNs (S : hH) (a : Nat) (cs : List Nat) (k : Nat) : Prop := ∃ ci, ci ∈ cs ∧ hoN S a ci k
def hoPs (S : hH) (a : Nat) (cs : List Nat) (k : Nat) : Prop := ∃ ci, ci ∈ cs ∧ hoP S a ci k
theorem va_rf_cat (r : Option Nat) : (va_rf r).category = 1 := by cases r <;> rfl
theorem hcat_i (x : Int32) : (Value.int x).category = 1 := rfl
theorem hcat_l (x : Int64) : (Value.long x).category = 2 := rfl
theorem hcat_r (x : Nat) : (Value.ref x).category = 1 := rfl
theorem hcat_n : (Value.null).category = 1 := rfl
theorem hle {a b c : Nat} (h : a = b) (h2 : c ≤ b) : c ≤ a := h ▸ h2
theorem hfr_rec {a b d : Nat} (h : a = d + 1 + b) : d + b + 1 ≤ a := by omega
theorem hlo_rec {a b d L : Nat} (h : a = (d + 1) * (19 + L) + b) : 8 + (L + 11) + (d * (19 + L) + b) ≤ a := by
  rw [h, Nat.succ_mul]; omega
theorem mm_leD {a b c d : Nat} (h : b = d + c) (h2 : Nat.ble a c = true) : a ≤ b := by
  have := Nat.le_of_ble_eq_true h2
  omega
theorem hoi1 : Cond.instanceMethod Lib.objectInit ∈ lw_all := q153
theorem hoi2 : Cond.code Lib.objectInit ⟨#[0xb1]⟩ 1 none ∈ lw_all := q154
section HLV
variable {p : Program} {l : Launch} {e : Env} {R : Room} {s : State} {m : MethodId} {args : Array Value} {below : List Frame} {meth : Method} {c : Code} {H : Heap} {locs : List Loc} {cells slots : Nat} {Q : State → Prop}
variable {cc : ByteArray} {pc : Nat} {ls : Array Slot} {rest : List Value}
theorem lv_topr {x : Nat} (k : ∀ y : Nat, y = x → W p l e R s m args below meth c H locs cells slots Q (F0 m pc ls (.ref y :: rest))) : W p l e R s m args below meth c H locs cells slots Q (F0 m pc ls (.ref x :: rest)) := k x rfl
theorem lv_topq {x : Option Nat} (k : ∀ y : Option Nat, y = x → W p l e R s m args below meth c H locs cells slots Q (F0 m pc ls (va_rf y :: rest))) : W p l e R s m args below meth c H locs cells slots Q (F0 m pc ls (va_rf x :: rest)) := k x rfl
theorem lv_aload_nQ (hx : p.tables.exec = Jvm.exec) (hb : c.code = cc) {k : Fin 4} {i : Nat} {x : Option Nat} (hdg : decode cc pc = .ok (.aload_n k, 1)) (hi : (k : Nat) = i) (hl : ls[i]? = some (.val (va_rf x)))
    (kk : W p l e R s m args below meth c H locs cells slots Q (F0 m (pc + 1) ls (va_rf x :: rest))) : W p l e R s m args below meth c H locs cells slots Q (F0 m pc ls (rest)) := by
  cases x with
  | none => exact lv_aload_nN hx hb hdg hi hl kk
  | some a => exact lv_aload_n hx hb hdg hi hl kk
theorem lv_aloadQ (hx : p.tables.exec = Jvm.exec) (hb : c.code = cc) {i : Nat} {x : Option Nat} (hdg : decode cc pc = .ok (.aload i, 2)) (hl : ls[i]? = some (.val (va_rf x)))
    (kk : W p l e R s m args below meth c H locs cells slots Q (F0 m (pc + 2) ls (va_rf x :: rest))) : W p l e R s m args below meth c H locs cells slots Q (F0 m pc ls (rest)) := by
  cases x with
  | none => exact lv_aloadN hx hb hdg hl kk
  | some a => exact lv_aload hx hb hdg hl kk
theorem lv_astore_nQ (hx : p.tables.exec = Jvm.exec) (hb : c.code = cc) {k : Fin 4} {i nL : Nat} {x : Option Nat} {lv lv' : List (Nat × Value)} (hdg : decode cc pc = .ok (.astore_n k, 1)) (hi : (k : Nat) = i) (h : lv_has ls nL lv) (hn : i < nL) (hl : (i, va_rf x) :: lv.filter (fun q => !(q.1 == i) && !(q.1 + 1 == i && q.2.category == 2)) = lv')
    (kk : ∀ ls' : Array Slot, lv_has ls' nL lv' → W p l e R s m args below meth c H locs cells slots Q (F0 m (pc + 1) ls' rest)) : W p l e R s m args below meth c H locs cells slots Q (F0 m pc ls (va_rf x :: rest)) := by
  cases x with
  | none => exact lv_astore_nN hx hb hdg hi h hn hl kk
  | some a => exact lv_astore_n hx hb hdg hi h hn hl kk
theorem lv_astoreQ (hx : p.tables.exec = Jvm.exec) (hb : c.code = cc) {i nL : Nat} {x : Option Nat} {lv lv' : List (Nat × Value)} (hdg : decode cc pc = .ok (.astore i, 2)) (h : lv_has ls nL lv) (hn : i < nL) (hl : (i, va_rf x) :: lv.filter (fun q => !(q.1 == i) && !(q.1 + 1 == i && q.2.category == 2)) = lv')
    (kk : ∀ ls' : Array Slot, lv_has ls' nL lv' → W p l e R s m args below meth c H locs cells slots Q (F0 m (pc + 2) ls' rest)) : W p l e R s m args below meth c H locs cells slots Q (F0 m pc ls (va_rf x :: rest)) := by
  cases x with
  | none => exact lv_astoreN hx hb hdg h hn hl kk
  | some a => exact lv_astore hx hb hdg h hn hl kk
theorem lv_roomO {k : Nat} {L : Nat} (h : 20 ≤ L) (hs : (rest.map fun v => v.category).sum ≤ 8 := by exact Nat.le_of_ble_eq_true rfl) : 2 * (F0 m pc ls (.ref k :: rest)).monitorRoom + (rest.map fun v => v.category).sum + 12 ≤ L := by
  have : (F0 m pc ls (.ref k :: rest)).monitorRoom = 0 := rfl
  omega
end HLV
section HCR
variable {p : Program} {l : Launch} {e : Env} {R : Room} {s : State} {m : MethodId} {args : Array Value} {below : List Frame} {meth : Method} {c : Code} {H : Heap} {locs : List Loc} {cells slots : Nat} {QQ : State → Prop}
variable {cc : ByteArray} {pc nL mc ms : Nat} {ls : Array Slot} {st rest : List Value} {G : hG} {A : Nat → Prop} {S S0 : hH} {own : String}
theorem hc_Ir {Q : Int32 → Prop} {a : Array Value} (X : hCtx p s m args c G A own cc nL) (hRR : hRep G s S H) (hDD : hDom A s.heap S0 S) (hS : va_S A s.heap H locs) (hr : va_Run p l e R s m args below meth c H locs cells slots 0 0 (F0 m pc ls st) rest (va_Qi (fun r S1 => S = S1 ∧ Q r) (hB G S H.size) (hAo S H.size) a) (hAo S H.size))
    (kk : ∀ (r : Int32), Q r → ∀ (H1 : Heap) (locs1 : List Loc), hRep G s S H1 → hDom A s.heap S0 S → va_S A s.heap H1 locs1 → W p l e R s m args below meth c H1 locs1 cells slots QQ (F0 m (pc + 3) ls (.int r :: rest))) : W p l e R s m args below meth c H locs cells slots QQ (F0 m pc ls st) :=
  hc_I X hRR hDD hS hr (fun r S1 hq H1 locs1 h1 h2 h3 => by obtain ⟨rfl, hq⟩ := hq; exact kk r hq H1 locs1 h1 h2 h3)
theorem hc_Lr {Q : Int64 → Prop} {a : Array Value} (X : hCtx p s m args c G A own cc nL) (hRR : hRep G s S H) (hDD : hDom A s.heap S0 S) (hS : va_S A s.heap H locs) (hr : va_Run p l e R s m args below meth c H locs cells slots 0 0 (F0 m pc ls st) rest (va_Ql (fun r S1 => S = S1 ∧ Q r) (hB G S H.size) (hAo S H.size) a) (hAo S H.size))
    (kk : ∀ (r : Int64), Q r → ∀ (H1 : Heap) (locs1 : List Loc), hRep G s S H1 → hDom A s.heap S0 S → va_S A s.heap H1 locs1 → W p l e R s m args below meth c H1 locs1 cells slots QQ (F0 m (pc + 3) ls (.long r :: rest))) : W p l e R s m args below meth c H locs cells slots QQ (F0 m pc ls st) :=
  hc_L X hRR hDD hS hr (fun r S1 hq H1 locs1 h1 h2 h3 => by obtain ⟨rfl, hq⟩ := hq; exact kk r hq H1 locs1 h1 h2 h3)
theorem hc_Nr {Q : Option Nat → Prop} {a : Array Value} (X : hCtx p s m args c G A own cc nL) (hRR : hRep G s S H) (hDD : hDom A s.heap S0 S) (hS : va_S A s.heap H locs) (hr : va_Run p l e R s m args below meth c H locs cells slots 0 0 (F0 m pc ls st) rest (va_Qq (fun r S1 => S = S1 ∧ Q r) (hB G S H.size) (hAo S H.size) a) (hAo S H.size))
    (kk : ∀ (r : Option Nat), Q r → ∀ (H1 : Heap) (locs1 : List Loc), hRep G s S H1 → hDom A s.heap S0 S → va_S A s.heap H1 locs1 → W p l e R s m args below meth c H1 locs1 cells slots QQ (F0 m (pc + 3) ls (va_rf r :: rest))) : W p l e R s m args below meth c H locs cells slots QQ (F0 m pc ls st) :=
  hc_N X hRR hDD hS hr (fun r S1 hq H1 locs1 h1 h2 h3 => by obtain ⟨rfl, hq⟩ := hq; exact kk r hq H1 locs1 h1 h2 h3)
theorem hc_Rr {Q : Nat → Prop} {a : Array Value} (X : hCtx p s m args c G A own cc nL) (hRR : hRep G s S H) (hDD : hDom A s.heap S0 S) (hS : va_S A s.heap H locs) (hr : va_Run p l e R s m args below meth c H locs cells slots 0 0 (F0 m pc ls st) rest (va_Qq (fun r S1 => S = S1 ∧ ∃ z, r = some z ∧ Q z) (hB G S H.size) (hAo S H.size) a) (hAo S H.size))
    (kk : ∀ (r : Nat), Q r → ∀ (H1 : Heap) (locs1 : List Loc), hRep G s S H1 → hDom A s.heap S0 S → va_S A s.heap H1 locs1 → W p l e R s m args below meth c H1 locs1 cells slots QQ (F0 m (pc + 3) ls (.ref r :: rest))) : W p l e R s m args below meth c H locs cells slots QQ (F0 m pc ls st) :=
  hc_N X hRR hDD hS hr (fun r S1 hq H1 locs1 h1 h2 h3 => by obtain ⟨rfl, z, rfl, hq⟩ := hq; exact kk z hq H1 locs1 h1 h2 h3)
theorem hc_Vr {Q : Prop} {a : Array Value} (X : hCtx p s m args c G A own cc nL) (hRR : hRep G s S H) (hDD : hDom A s.heap S0 S) (hS : va_S A s.heap H locs) (hr : va_Run p l e R s m args below meth c H locs cells slots 0 0 (F0 m pc ls st) rest (va_Qv (fun S1 => S = S1 ∧ Q) (hB G S H.size) (hAo S H.size) a) (hAo S H.size))
    (kk : Q → ∀ (H1 : Heap) (locs1 : List Loc), hRep G s S H1 → hDom A s.heap S0 S → va_S A s.heap H1 locs1 → W p l e R s m args below meth c H1 locs1 cells slots QQ (F0 m (pc + 3) ls rest)) : W p l e R s m args below meth c H locs cells slots QQ (F0 m pc ls st) :=
  hc_V X hRR hDD hS hr (fun S1 hq H1 locs1 h1 h2 h3 => by obtain ⟨rfl, hq⟩ := hq; exact kk hq H1 locs1 h1 h2 h3)
/-- a table with gaps that lead where what is outside leads -/
theorem mm_tabG {dflt lo hi : Int} {offs : Array Int} {len : Nat} {x : Int32} {tgt : Nat} (gaps : List Int) (hx : p.tables.exec = Jvm.exec) (hb : c.code = cc) (hdg : decode cc pc = .ok (.tableswitch dflt lo hi offs, len)) (h : x.toInt < lo ∨ hi < x.toInt ∨ x.toInt ∈ gaps) (hg : gaps.all (fun g => decide (lo ≤ g ∧ g ≤ hi ∧ offs[(g - lo).toNat]? = some dflt)) = true) (ht : (pc : Int) + dflt = (tgt : Int))
    (k : W p l e R s m args below meth c H locs cells slots QQ (F0 m tgt ls rest)) : W p l e R s m args below meth c H locs cells slots QQ (F0 m pc ls (.int x :: rest)) := by
  rcases h with h | h | h
  · exact lv_tableOut hx hb hdg (Or.inl h) ht k
  · exact lv_tableOut hx hb hdg (Or.inr h) ht k
  · have := List.all_eq_true.mp hg _ h
    simp only [decide_eq_true_eq] at this
    exact lv_tableIn hx hb hdg (by omega) (by omega) this.2.2 ht k
end HCR
theorem pl_J0_append : plainFor yJ0_append = true := by decide +kernel
theorem pl_J0_appendNull : plainFor yJ0_appendNull = true := by decide +kernel
theorem pl_J0_append_2 : plainFor yJ0_append_2 = true := by decide +kernel
theorem pl_J0_append_3 : plainFor yJ0_append_3 = true := by decide +kernel
theorem pl_J0_append_4 : plainFor yJ0_append_4 = true := by decide +kernel
theorem pl_J0_charAt : plainFor yJ0_charAt = true := by decide +kernel
theorem pl_J0_ensureCapacityInternal : plainFor yJ0_ensureCapacityInternal = true := by decide +kernel
theorem pl_J0_getValue : plainFor yJ0_getValue = true := by decide +kernel
theorem pl_J0_inflate : plainFor yJ0_inflate = true := by decide +kernel
theorem pl_J0_inflateIfNeededFor : plainFor yJ0_inflateIfNeededFor = true := by decide +kernel
theorem pl_J0_init : plainFor yJ0_init = true := by decide +kernel
theorem pl_J0_isLatin1 : plainFor yJ0_isLatin1 = true := by decide +kernel
theorem pl_J0_length : plainFor yJ0_length = true := by decide +kernel
theorem pl_J0_newCapacity : plainFor yJ0_newCapacity = true := by decide +kernel
theorem pl_J0_putStringAt : plainFor yJ0_putStringAt = true := by decide +kernel
theorem pl_J0_setLength : plainFor yJ0_setLength = true := by decide +kernel
theorem pl_J1_append : plainFor yJ1_append = true := by decide +kernel
theorem pl_J1_append_2 : plainFor yJ1_append_2 = true := by decide +kernel
theorem pl_J1_append_3 : plainFor yJ1_append_3 = true := by decide +kernel
theorem pl_J1_append_4 : plainFor yJ1_append_4 = true := by decide +kernel
theorem pl_J1_append_5 : plainFor yJ1_append_5 = true := by decide +kernel
theorem pl_J1_append_6 : plainFor yJ1_append_6 = true := by decide +kernel
theorem pl_J1_charAt : plainFor yJ1_charAt = true := by decide +kernel
theorem pl_J1_init_2 : plainFor yJ1_init_2 = true := by decide +kernel
theorem pl_J1_length : plainFor yJ1_length = true := by decide +kernel
theorem pl_J1_setLength : plainFor yJ1_setLength = true := by decide +kernel
theorem pl_J1_toString : plainFor yJ1_toString = true := by decide +kernel
theorem pl_J10_checkLength : plainFor yJ10_checkLength = true := by decide +kernel
theorem pl_J10_copyOf : plainFor yJ10_copyOf = true := by decide +kernel
theorem pl_J10_copyOfRange : plainFor yJ10_copyOfRange = true := by decide +kernel
theorem pl_J10_copyOfRangeByte : plainFor yJ10_copyOfRangeByte = true := by decide +kernel
theorem pl_J10_copyOf_2 : plainFor yJ10_copyOf_2 = true := by decide +kernel
theorem pl_J10_copyOf_3 : plainFor yJ10_copyOf_3 = true := by decide +kernel
theorem pl_J10_fill : plainFor yJ10_fill = true := by decide +kernel
theorem pl_J10_rangeCheck : plainFor yJ10_rangeCheck = true := by decide +kernel
theorem pl_J11_canEncode : plainFor yJ11_canEncode = true := by decide +kernel
theorem pl_J11_charAt : plainFor yJ11_charAt = true := by decide +kernel
theorem pl_J11_equals : plainFor yJ11_equals = true := by decide +kernel
theorem pl_J11_fillNull : plainFor yJ11_fillNull = true := by decide +kernel
theorem pl_J11_hashCode : plainFor yJ11_hashCode = true := by decide +kernel
theorem pl_J12_checkIndex : plainFor yJ12_checkIndex = true := by decide +kernel
theorem pl_J15_getChars : plainFor yJ15_getChars = true := by decide +kernel
theorem pl_J15_stringSize : plainFor yJ15_stringSize = true := by decide +kernel
theorem pl_J18_init : plainFor yJ18_init = true := by decide +kernel
theorem pl_J19_init : plainFor yJ19_init = true := by decide +kernel
theorem pl_J2_charAt : plainFor yJ2_charAt = true := by decide +kernel
theorem pl_J2_checkIndex : plainFor yJ2_checkIndex = true := by decide +kernel
theorem pl_J2_coder : plainFor yJ2_coder = true := by decide +kernel
theorem pl_J2_equals : plainFor yJ2_equals = true := by decide +kernel
theorem pl_J2_getBytes : plainFor yJ2_getBytes = true := by decide +kernel
theorem pl_J2_hashCode : plainFor yJ2_hashCode = true := by decide +kernel
theorem pl_J2_init : plainFor yJ2_init = true := by decide +kernel
theorem pl_J2_init_2 : plainFor yJ2_init_2 = true := by decide +kernel
theorem pl_J2_isLatin1 : plainFor yJ2_isLatin1 = true := by decide +kernel
theorem pl_J2_length : plainFor yJ2_length = true := by decide +kernel
theorem pl_J2_toString : plainFor yJ2_toString = true := by decide +kernel
theorem pl_J2_valueOf : plainFor yJ2_valueOf = true := by decide +kernel
theorem pl_J20_add : plainFor yJ20_add = true := by decide +kernel
theorem pl_J20_add_2 : plainFor yJ20_add_2 = true := by decide +kernel
theorem pl_J20_elementData : plainFor yJ20_elementData = true := by decide +kernel
theorem pl_J20_get : plainFor yJ20_get = true := by decide +kernel
theorem pl_J20_grow : plainFor yJ20_grow = true := by decide +kernel
theorem pl_J20_grow_2 : plainFor yJ20_grow_2 = true := by decide +kernel
theorem pl_J20_init : plainFor yJ20_init = true := by decide +kernel
theorem pl_J20_iterator : plainFor yJ20_iterator = true := by decide +kernel
theorem pl_J20_size : plainFor yJ20_size = true := by decide +kernel
theorem pl_J21_checkIndex : plainFor yJ21_checkIndex = true := by decide +kernel
theorem pl_J22_checkForComodification : plainFor yJ22_checkForComodification = true := by decide +kernel
theorem pl_J22_hasNext : plainFor yJ22_hasNext = true := by decide +kernel
theorem pl_J22_init : plainFor yJ22_init = true := by decide +kernel
theorem pl_J22_next : plainFor yJ22_next = true := by decide +kernel
theorem pl_J4_init_3 : plainFor yJ4_init_3 = true := by decide +kernel
theorem pl_J5_init_3 : plainFor yJ5_init_3 = true := by decide +kernel
theorem pl_J6_init_3 : plainFor yJ6_init_3 = true := by decide +kernel
theorem pl_J8_hugeLength : plainFor yJ8_hugeLength = true := by decide +kernel
theorem pl_J8_newLength : plainFor yJ8_newLength = true := by decide +kernel
theorem pl_J8_signedHashCode : plainFor yJ8_signedHashCode = true := by decide +kernel
theorem pl_J8_vectorizedHashCode : plainFor yJ8_vectorizedHashCode = true := by decide +kernel
theorem pl_J9_abs : plainFor yJ9_abs = true := by decide +kernel
theorem pl_J9_addExact : plainFor yJ9_addExact = true := by decide +kernel
theorem pl_J9_floorDiv : plainFor yJ9_floorDiv = true := by decide +kernel
theorem pl_J9_floorMod : plainFor yJ9_floorMod = true := by decide +kernel
theorem pl_J9_floorMod_2 : plainFor yJ9_floorMod_2 = true := by decide +kernel
theorem pl_J9_max : plainFor yJ9_max = true := by decide +kernel
theorem pl_J9_min : plainFor yJ9_min = true := by decide +kernel
theorem pl_J9_multiplyExact : plainFor yJ9_multiplyExact = true := by decide +kernel
theorem pl_J9_toIntExact : plainFor yJ9_toIntExact = true := by decide +kernel
theorem pl_X0_ask : plainFor yX0_ask = true := by decide +kernel
theorem pl_X0_asked : plainFor yX0_asked = true := by decide +kernel
theorem pl_X0_at : plainFor yX0_at = true := by decide +kernel
theorem pl_X0_cell : plainFor yX0_cell = true := by decide +kernel
theorem pl_X0_corner : plainFor yX0_corner = true := by decide +kernel
theorem pl_X0_count : plainFor yX0_count = true := by decide +kernel
theorem pl_X0_degreeOf : plainFor yX0_degreeOf = true := by decide +kernel
theorem pl_X0_degreeOf_2 : plainFor yX0_degreeOf_2 = true := by decide +kernel
theorem pl_X0_divides : plainFor yX0_divides = true := by decide +kernel
theorem pl_X0_dividesResidues : plainFor yX0_dividesResidues = true := by decide +kernel
theorem pl_X0_expanded : plainFor yX0_expanded = true := by decide +kernel
theorem pl_X0_expansion : plainFor yX0_expansion = true := by decide +kernel
theorem pl_X0_factor : plainFor yX0_factor = true := by decide +kernel
theorem pl_X0_factorsOf : plainFor yX0_factorsOf = true := by decide +kernel
theorem pl_X0_feed : plainFor yX0_feed = true := by decide +kernel
theorem pl_X0_gets : plainFor yX0_gets = true := by decide +kernel
theorem pl_X0_grow : plainFor yX0_grow = true := by decide +kernel
theorem pl_X0_in : plainFor yX0_in = true := by decide +kernel
theorem pl_X0_inNumbers : plainFor yX0_inNumbers = true := by decide +kernel
theorem pl_X0_inResidues : plainFor yX0_inResidues = true := by decide +kernel
theorem pl_X0_inverse : plainFor yX0_inverse = true := by decide +kernel
theorem pl_X0_isMonic : plainFor yX0_isMonic = true := by decide +kernel
theorem pl_X0_isPart : plainFor yX0_isPart = true := by decide +kernel
theorem pl_X0_isSheet : plainFor yX0_isSheet = true := by decide +kernel
theorem pl_X0_isSlot : plainFor yX0_isSlot = true := by decide +kernel
theorem pl_X0_item : plainFor yX0_item = true := by decide +kernel
theorem pl_X0_key : plainFor yX0_key = true := by decide +kernel
theorem pl_X0_knot : plainFor yX0_knot = true := by decide +kernel
theorem pl_X0_knotAt : plainFor yX0_knotAt = true := by decide +kernel
theorem pl_X0_last : plainFor yX0_last = true := by decide +kernel
theorem pl_X0_leaf : plainFor yX0_leaf = true := by decide +kernel
theorem pl_X0_limit : plainFor yX0_limit = true := by decide +kernel
theorem pl_X0_mix : plainFor yX0_mix = true := by decide +kernel
theorem pl_X0_monomial : plainFor yX0_monomial = true := by decide +kernel
theorem pl_X0_point : plainFor yX0_point = true := by decide +kernel
theorem pl_X0_power : plainFor yX0_power = true := by decide +kernel
theorem pl_X0_prime : plainFor yX0_prime = true := by decide +kernel
theorem pl_X0_product : plainFor yX0_product = true := by decide +kernel
theorem pl_X0_residual : plainFor yX0_residual = true := by decide +kernel
theorem pl_X0_set : plainFor yX0_set = true := by decide +kernel
theorem pl_X0_sheet : plainFor yX0_sheet = true := by decide +kernel
theorem pl_X0_sheetsThere : plainFor yX0_sheetsThere = true := by decide +kernel
theorem pl_X0_side : plainFor yX0_side = true := by decide +kernel
theorem pl_X0_sideAt : plainFor yX0_sideAt = true := by decide +kernel
theorem pl_X0_slope : plainFor yX0_slope = true := by decide +kernel
theorem pl_X0_sloped : plainFor yX0_sloped = true := by decide +kernel
theorem pl_X0_slotsThere : plainFor yX0_slotsThere = true := by decide +kernel
theorem pl_X0_spelling : plainFor yX0_spelling = true := by decide +kernel
theorem pl_X0_spill : plainFor yX0_spill = true := by decide +kernel
theorem pl_X0_taken : plainFor yX0_taken = true := by decide +kernel
theorem pl_X0_text : plainFor yX0_text = true := by decide +kernel
theorem pl_X0_times : plainFor yX0_times = true := by decide +kernel
theorem pl_X0_timesWith : plainFor yX0_timesWith = true := by decide +kernel
theorem pl_X0_told : plainFor yX0_told = true := by decide +kernel
theorem pl_X0_toldDegree : plainFor yX0_toldDegree = true := by decide +kernel
theorem pl_X0_tree : plainFor yX0_tree = true := by decide +kernel
theorem pl_X0_valueOf : plainFor yX0_valueOf = true := by decide +kernel
theorem pl_X0_whyNot : plainFor yX0_whyNot = true := by decide +kernel
theorem pl_X0_wipe : plainFor yX0_wipe = true := by decide +kernel
theorem pl_X0_worth : plainFor yX0_worth = true := by decide +kernel
theorem pl_X1_first : plainFor yX1_first = true := by decide +kernel
theorem pl_X1_get : plainFor yX1_get = true := by decide +kernel
theorem pl_X1_next : plainFor yX1_next = true := by decide +kernel
theorem pl_X1_put : plainFor yX1_put = true := by decide +kernel
theorem pl_X1_size : plainFor yX1_size = true := by decide +kernel
theorem pl_X10_comes : plainFor yX10_comes = true := by decide +kernel
theorem pl_X10_init : plainFor yX10_init = true := by decide +kernel
theorem pl_X11_degree : plainFor yX11_degree = true := by decide +kernel
theorem pl_X11_init : plainFor yX11_init = true := by decide +kernel
theorem pl_X11_kind : plainFor yX11_kind = true := by decide +kernel
theorem pl_X11_ramification : plainFor yX11_ramification = true := by decide +kernel
theorem pl_X11_residueDegree : plainFor yX11_residueDegree = true := by decide +kernel
theorem pl_X11_spelling : plainFor yX11_spelling = true := by decide +kernel
theorem pl_X12_init : plainFor yX12_init = true := by decide +kernel
theorem pl_X12_kind : plainFor yX12_kind = true := by decide +kernel
theorem pl_X12_spelling : plainFor yX12_spelling = true := by decide +kernel
theorem pl_X13_init : plainFor yX13_init = true := by decide +kernel
theorem pl_X13_kind : plainFor yX13_kind = true := by decide +kernel
theorem pl_X13_spelling : plainFor yX13_spelling = true := by decide +kernel
theorem pl_X14_init : plainFor yX14_init = true := by decide +kernel
theorem pl_X14_kind : plainFor yX14_kind = true := by decide +kernel
theorem pl_X14_spelling : plainFor yX14_spelling = true := by decide +kernel
theorem pl_X15_common : plainFor yX15_common = true := by decide +kernel
theorem pl_X15_init : plainFor yX15_init = true := by decide +kernel
theorem pl_X16_joined : plainFor yX16_joined = true := by decide +kernel
theorem pl_X16_size : plainFor yX16_size = true := by decide +kernel
theorem pl_X3_here : plainFor yX3_here = true := by decide +kernel
theorem pl_X3_init : plainFor yX3_init = true := by decide +kernel
theorem pl_X3_isDigit : plainFor yX3_isDigit = true := by decide +kernel
theorem pl_X3_needs : plainFor yX3_needs = true := by decide +kernel
theorem pl_X3_number : plainFor yX3_number = true := by decide +kernel
theorem pl_X3_reads : plainFor yX3_reads = true := by decide +kernel
theorem pl_X3_readsPower : plainFor yX3_readsPower = true := by decide +kernel
theorem pl_X3_readsSign : plainFor yX3_readsSign = true := by decide +kernel
theorem pl_X3_readsTerm : plainFor yX3_readsTerm = true := by decide +kernel
theorem pl_X4_init : plainFor yX4_init = true := by decide +kernel
theorem pl_X5_init : plainFor yX5_init = true := by decide +kernel
theorem pl_X6_asNumbers : plainFor yX6_asNumbers = true := by decide +kernel
theorem pl_X6_carries : plainFor yX6_carries = true := by decide +kernel
theorem pl_X6_findsSides : plainFor yX6_findsSides = true := by decide +kernel
theorem pl_X6_grows : plainFor yX6_grows = true := by decide +kernel
theorem pl_X6_headOf : plainFor yX6_headOf = true := by decide +kernel
theorem pl_X6_index : plainFor yX6_index = true := by decide +kernel
theorem pl_X6_init : plainFor yX6_init = true := by decide +kernel
theorem pl_X6_levels : plainFor yX6_levels = true := by decide +kernel
theorem pl_X6_looks : plainFor yX6_looks = true := by decide +kernel
theorem pl_X6_meets : plainFor yX6_meets = true := by decide +kernel
theorem pl_X6_nextKey : plainFor yX6_nextKey = true := by decide +kernel
theorem pl_X6_ofValue : plainFor yX6_ofValue = true := by decide +kernel
theorem pl_X6_open : plainFor yX6_open = true := by decide +kernel
theorem pl_X6_pointsBelow : plainFor yX6_pointsBelow = true := by decide +kernel
theorem pl_X6_sideOf : plainFor yX6_sideOf = true := by decide +kernel
theorem pl_X6_spelling : plainFor yX6_spelling = true := by decide +kernel
theorem pl_X6_splits : plainFor yX6_splits = true := by decide +kernel
theorem pl_X6_wild : plainFor yX6_wild = true := by decide +kernel
theorem pl_X7_init : plainFor yX7_init = true := by decide +kernel
theorem pl_X8_degree : plainFor yX8_degree = true := by decide +kernel
theorem pl_X8_init : plainFor yX8_init = true := by decide +kernel
theorem pl_X8_kind : plainFor yX8_kind = true := by decide +kernel
theorem pl_X8_ramification : plainFor yX8_ramification = true := by decide +kernel
theorem pl_X8_residueDegree : plainFor yX8_residueDegree = true := by decide +kernel
theorem pl_X8_spelling : plainFor yX8_spelling = true := by decide +kernel
theorem pl_X9_at : plainFor yX9_at = true := by decide +kernel
theorem pl_X9_behind : plainFor yX9_behind = true := by decide +kernel
theorem pl_X9_init : plainFor yX9_init = true := by decide +kernel
theorem pl_X9_rootBehind : plainFor yX9_rootBehind = true := by decide +kernel
theorem pl_X9_worthOf : plainFor yX9_worthOf = true := by decide +kernel
theorem hds_J0_append : yJ0_append.name ≠ "<init>" ∧ (parseMethodDescriptor yJ0_append.desc).map (fun d => d.parameters.length) = some 1 := by decide +kernel
theorem hds_J0_append_2 : yJ0_append_2.name ≠ "<init>" ∧ (parseMethodDescriptor yJ0_append_2.desc).map (fun d => d.parameters.length) = some 1 := by decide +kernel
theorem hds_J0_append_3 : yJ0_append_3.name ≠ "<init>" ∧ (parseMethodDescriptor yJ0_append_3.desc).map (fun d => d.parameters.length) = some 1 := by decide +kernel
theorem hds_J0_append_4 : yJ0_append_4.name ≠ "<init>" ∧ (parseMethodDescriptor yJ0_append_4.desc).map (fun d => d.parameters.length) = some 1 := by decide +kernel
theorem hds_J0_charAt : yJ0_charAt.name ≠ "<init>" ∧ (parseMethodDescriptor yJ0_charAt.desc).map (fun d => d.parameters.length) = some 1 := by decide +kernel
theorem hd_J0_init : yJ0_init.cls ≠ "java/lang/invoke/MethodHandle" ∧ yJ0_init.cls ≠ "java/lang/invoke/VarHandle" ∧ (parseMethodDescriptor yJ0_init.desc).map (fun d => d.parameters.length) = some 1 := by decide +kernel
theorem hds_J0_length : yJ0_length.name ≠ "<init>" ∧ (parseMethodDescriptor yJ0_length.desc).map (fun d => d.parameters.length) = some 0 := by decide +kernel
theorem hds_J0_setLength : yJ0_setLength.name ≠ "<init>" ∧ (parseMethodDescriptor yJ0_setLength.desc).map (fun d => d.parameters.length) = some 1 := by decide +kernel
theorem hdv_J1_append : yJ1_append.cls = RJ1 ∧ yJ1_append.cls ≠ "java/lang/invoke/MethodHandle" ∧ yJ1_append.cls ≠ "java/lang/invoke/VarHandle" ∧ (parseMethodDescriptor yJ1_append.desc).map (fun d => d.parameters.length) = some 1 := by decide +kernel
theorem hdv_J1_append_2 : yJ1_append_2.cls = RJ1 ∧ yJ1_append_2.cls ≠ "java/lang/invoke/MethodHandle" ∧ yJ1_append_2.cls ≠ "java/lang/invoke/VarHandle" ∧ (parseMethodDescriptor yJ1_append_2.desc).map (fun d => d.parameters.length) = some 1 := by decide +kernel
theorem hdv_J1_append_3 : yJ1_append_3.cls = RJ1 ∧ yJ1_append_3.cls ≠ "java/lang/invoke/MethodHandle" ∧ yJ1_append_3.cls ≠ "java/lang/invoke/VarHandle" ∧ (parseMethodDescriptor yJ1_append_3.desc).map (fun d => d.parameters.length) = some 1 := by decide +kernel
theorem hdv_J1_append_4 : yJ1_append_4.cls = RJ1 ∧ yJ1_append_4.cls ≠ "java/lang/invoke/MethodHandle" ∧ yJ1_append_4.cls ≠ "java/lang/invoke/VarHandle" ∧ (parseMethodDescriptor yJ1_append_4.desc).map (fun d => d.parameters.length) = some 1 := by decide +kernel
theorem hdv_J1_append_5 : yJ1_append_5.cls = RJ1 ∧ yJ1_append_5.cls ≠ "java/lang/invoke/MethodHandle" ∧ yJ1_append_5.cls ≠ "java/lang/invoke/VarHandle" ∧ (parseMethodDescriptor yJ1_append_5.desc).map (fun d => d.parameters.length) = some 1 := by decide +kernel
theorem hd_J1_init_2 : yJ1_init_2.cls ≠ "java/lang/invoke/MethodHandle" ∧ yJ1_init_2.cls ≠ "java/lang/invoke/VarHandle" ∧ (parseMethodDescriptor yJ1_init_2.desc).map (fun d => d.parameters.length) = some 0 := by decide +kernel
theorem hdv_J1_length : yJ1_length.cls = RJ1 ∧ yJ1_length.cls ≠ "java/lang/invoke/MethodHandle" ∧ yJ1_length.cls ≠ "java/lang/invoke/VarHandle" ∧ (parseMethodDescriptor yJ1_length.desc).map (fun d => d.parameters.length) = some 0 := by decide +kernel
theorem hdv_J1_setLength : yJ1_setLength.cls = RJ1 ∧ yJ1_setLength.cls ≠ "java/lang/invoke/MethodHandle" ∧ yJ1_setLength.cls ≠ "java/lang/invoke/VarHandle" ∧ (parseMethodDescriptor yJ1_setLength.desc).map (fun d => d.parameters.length) = some 1 := by decide +kernel
theorem hdv_J1_toString : yJ1_toString.cls = RJ1 ∧ yJ1_toString.cls ≠ "java/lang/invoke/MethodHandle" ∧ yJ1_toString.cls ≠ "java/lang/invoke/VarHandle" ∧ (parseMethodDescriptor yJ1_toString.desc).map (fun d => d.parameters.length) = some 0 := by decide +kernel
theorem hd_J10_checkLength : yJ10_checkLength.cls ≠ "java/lang/invoke/MethodHandle" ∧ yJ10_checkLength.cls ≠ "java/lang/invoke/VarHandle" ∧ (parseMethodDescriptor yJ10_checkLength.desc).map (fun d => d.parameters.length) = some 2 := by decide +kernel
theorem hd_J10_copyOf : yJ10_copyOf.cls ≠ "java/lang/invoke/MethodHandle" ∧ yJ10_copyOf.cls ≠ "java/lang/invoke/VarHandle" ∧ (parseMethodDescriptor yJ10_copyOf.desc).map (fun d => d.parameters.length) = some 2 := by decide +kernel
theorem hd_J10_copyOfRange : yJ10_copyOfRange.cls ≠ "java/lang/invoke/MethodHandle" ∧ yJ10_copyOfRange.cls ≠ "java/lang/invoke/VarHandle" ∧ (parseMethodDescriptor yJ10_copyOfRange.desc).map (fun d => d.parameters.length) = some 3 := by decide +kernel
theorem hd_J10_copyOfRangeByte : yJ10_copyOfRangeByte.cls ≠ "java/lang/invoke/MethodHandle" ∧ yJ10_copyOfRangeByte.cls ≠ "java/lang/invoke/VarHandle" ∧ (parseMethodDescriptor yJ10_copyOfRangeByte.desc).map (fun d => d.parameters.length) = some 3 := by decide +kernel
theorem hd_J10_copyOf_2 : yJ10_copyOf_2.cls ≠ "java/lang/invoke/MethodHandle" ∧ yJ10_copyOf_2.cls ≠ "java/lang/invoke/VarHandle" ∧ (parseMethodDescriptor yJ10_copyOf_2.desc).map (fun d => d.parameters.length) = some 3 := by decide +kernel
theorem hd_J10_copyOf_3 : yJ10_copyOf_3.cls ≠ "java/lang/invoke/MethodHandle" ∧ yJ10_copyOf_3.cls ≠ "java/lang/invoke/VarHandle" ∧ (parseMethodDescriptor yJ10_copyOf_3.desc).map (fun d => d.parameters.length) = some 2 := by decide +kernel
theorem hd_J10_fill : yJ10_fill.cls ≠ "java/lang/invoke/MethodHandle" ∧ yJ10_fill.cls ≠ "java/lang/invoke/VarHandle" ∧ (parseMethodDescriptor yJ10_fill.desc).map (fun d => d.parameters.length) = some 4 := by decide +kernel
theorem hd_J10_rangeCheck : yJ10_rangeCheck.cls ≠ "java/lang/invoke/MethodHandle" ∧ yJ10_rangeCheck.cls ≠ "java/lang/invoke/VarHandle" ∧ (parseMethodDescriptor yJ10_rangeCheck.desc).map (fun d => d.parameters.length) = some 3 := by decide +kernel
theorem hd_J11_canEncode : yJ11_canEncode.cls ≠ "java/lang/invoke/MethodHandle" ∧ yJ11_canEncode.cls ≠ "java/lang/invoke/VarHandle" ∧ (parseMethodDescriptor yJ11_canEncode.desc).map (fun d => d.parameters.length) = some 1 := by decide +kernel
theorem hd_J11_charAt : yJ11_charAt.cls ≠ "java/lang/invoke/MethodHandle" ∧ yJ11_charAt.cls ≠ "java/lang/invoke/VarHandle" ∧ (parseMethodDescriptor yJ11_charAt.desc).map (fun d => d.parameters.length) = some 2 := by decide +kernel
theorem hd_J11_equals : yJ11_equals.cls ≠ "java/lang/invoke/MethodHandle" ∧ yJ11_equals.cls ≠ "java/lang/invoke/VarHandle" ∧ (parseMethodDescriptor yJ11_equals.desc).map (fun d => d.parameters.length) = some 2 := by decide +kernel
theorem hd_J11_fillNull : yJ11_fillNull.cls ≠ "java/lang/invoke/MethodHandle" ∧ yJ11_fillNull.cls ≠ "java/lang/invoke/VarHandle" ∧ (parseMethodDescriptor yJ11_fillNull.desc).map (fun d => d.parameters.length) = some 3 := by decide +kernel
theorem hd_J11_hashCode : yJ11_hashCode.cls ≠ "java/lang/invoke/MethodHandle" ∧ yJ11_hashCode.cls ≠ "java/lang/invoke/VarHandle" ∧ (parseMethodDescriptor yJ11_hashCode.desc).map (fun d => d.parameters.length) = some 1 := by decide +kernel
theorem hd_J12_checkIndex : yJ12_checkIndex.cls ≠ "java/lang/invoke/MethodHandle" ∧ yJ12_checkIndex.cls ≠ "java/lang/invoke/VarHandle" ∧ (parseMethodDescriptor yJ12_checkIndex.desc).map (fun d => d.parameters.length) = some 3 := by decide +kernel
theorem hd_J15_getChars : yJ15_getChars.cls ≠ "java/lang/invoke/MethodHandle" ∧ yJ15_getChars.cls ≠ "java/lang/invoke/VarHandle" ∧ (parseMethodDescriptor yJ15_getChars.desc).map (fun d => d.parameters.length) = some 3 := by decide +kernel
theorem hd_J15_stringSize : yJ15_stringSize.cls ≠ "java/lang/invoke/MethodHandle" ∧ yJ15_stringSize.cls ≠ "java/lang/invoke/VarHandle" ∧ (parseMethodDescriptor yJ15_stringSize.desc).map (fun d => d.parameters.length) = some 1 := by decide +kernel
theorem hd_J18_init : yJ18_init.cls ≠ "java/lang/invoke/MethodHandle" ∧ yJ18_init.cls ≠ "java/lang/invoke/VarHandle" ∧ (parseMethodDescriptor yJ18_init.desc).map (fun d => d.parameters.length) = some 0 := by decide +kernel
theorem hd_J19_init : yJ19_init.cls ≠ "java/lang/invoke/MethodHandle" ∧ yJ19_init.cls ≠ "java/lang/invoke/VarHandle" ∧ (parseMethodDescriptor yJ19_init.desc).map (fun d => d.parameters.length) = some 0 := by decide +kernel
theorem hd_J2_checkIndex : yJ2_checkIndex.cls ≠ "java/lang/invoke/MethodHandle" ∧ yJ2_checkIndex.cls ≠ "java/lang/invoke/VarHandle" ∧ (parseMethodDescriptor yJ2_checkIndex.desc).map (fun d => d.parameters.length) = some 2 := by decide +kernel
theorem hdv_J2_coder : yJ2_coder.cls = RJ2 ∧ yJ2_coder.cls ≠ "java/lang/invoke/MethodHandle" ∧ yJ2_coder.cls ≠ "java/lang/invoke/VarHandle" ∧ (parseMethodDescriptor yJ2_coder.desc).map (fun d => d.parameters.length) = some 0 := by decide +kernel
theorem hdv_J2_equals : yJ2_equals.cls = RJ2 ∧ yJ2_equals.cls ≠ "java/lang/invoke/MethodHandle" ∧ yJ2_equals.cls ≠ "java/lang/invoke/VarHandle" ∧ (parseMethodDescriptor yJ2_equals.desc).map (fun d => d.parameters.length) = some 1 := by decide +kernel
theorem hdv_J2_getBytes : yJ2_getBytes.cls = RJ2 ∧ yJ2_getBytes.cls ≠ "java/lang/invoke/MethodHandle" ∧ yJ2_getBytes.cls ≠ "java/lang/invoke/VarHandle" ∧ (parseMethodDescriptor yJ2_getBytes.desc).map (fun d => d.parameters.length) = some 3 := by decide +kernel
theorem hdv_J2_hashCode : yJ2_hashCode.cls = RJ2 ∧ yJ2_hashCode.cls ≠ "java/lang/invoke/MethodHandle" ∧ yJ2_hashCode.cls ≠ "java/lang/invoke/VarHandle" ∧ (parseMethodDescriptor yJ2_hashCode.desc).map (fun d => d.parameters.length) = some 0 := by decide +kernel
theorem hd_J2_init : yJ2_init.cls ≠ "java/lang/invoke/MethodHandle" ∧ yJ2_init.cls ≠ "java/lang/invoke/VarHandle" ∧ (parseMethodDescriptor yJ2_init.desc).map (fun d => d.parameters.length) = some 1 := by decide +kernel
theorem hd_J2_init_2 : yJ2_init_2.cls ≠ "java/lang/invoke/MethodHandle" ∧ yJ2_init_2.cls ≠ "java/lang/invoke/VarHandle" ∧ (parseMethodDescriptor yJ2_init_2.desc).map (fun d => d.parameters.length) = some 2 := by decide +kernel
theorem hdv_J2_isLatin1 : yJ2_isLatin1.cls = RJ2 ∧ yJ2_isLatin1.cls ≠ "java/lang/invoke/MethodHandle" ∧ yJ2_isLatin1.cls ≠ "java/lang/invoke/VarHandle" ∧ (parseMethodDescriptor yJ2_isLatin1.desc).map (fun d => d.parameters.length) = some 0 := by decide +kernel
theorem hdv_J2_length : yJ2_length.cls = RJ2 ∧ yJ2_length.cls ≠ "java/lang/invoke/MethodHandle" ∧ yJ2_length.cls ≠ "java/lang/invoke/VarHandle" ∧ (parseMethodDescriptor yJ2_length.desc).map (fun d => d.parameters.length) = some 0 := by decide +kernel
theorem hd_J2_valueOf : yJ2_valueOf.cls ≠ "java/lang/invoke/MethodHandle" ∧ yJ2_valueOf.cls ≠ "java/lang/invoke/VarHandle" ∧ (parseMethodDescriptor yJ2_valueOf.desc).map (fun d => d.parameters.length) = some 1 := by decide +kernel
theorem hdv_J20_add : yJ20_add.cls = RJ20 ∧ yJ20_add.cls ≠ "java/lang/invoke/MethodHandle" ∧ yJ20_add.cls ≠ "java/lang/invoke/VarHandle" ∧ (parseMethodDescriptor yJ20_add.desc).map (fun d => d.parameters.length) = some 1 := by decide +kernel
theorem hdv_J20_add_2 : yJ20_add_2.cls = RJ20 ∧ yJ20_add_2.cls ≠ "java/lang/invoke/MethodHandle" ∧ yJ20_add_2.cls ≠ "java/lang/invoke/VarHandle" ∧ (parseMethodDescriptor yJ20_add_2.desc).map (fun d => d.parameters.length) = some 3 := by decide +kernel
theorem hdv_J20_elementData : yJ20_elementData.cls = RJ20 ∧ yJ20_elementData.cls ≠ "java/lang/invoke/MethodHandle" ∧ yJ20_elementData.cls ≠ "java/lang/invoke/VarHandle" ∧ (parseMethodDescriptor yJ20_elementData.desc).map (fun d => d.parameters.length) = some 1 := by decide +kernel
theorem hdv_J20_get : yJ20_get.cls = RJ20 ∧ yJ20_get.cls ≠ "java/lang/invoke/MethodHandle" ∧ yJ20_get.cls ≠ "java/lang/invoke/VarHandle" ∧ (parseMethodDescriptor yJ20_get.desc).map (fun d => d.parameters.length) = some 1 := by decide +kernel
theorem hdv_J20_grow : yJ20_grow.cls = RJ20 ∧ yJ20_grow.cls ≠ "java/lang/invoke/MethodHandle" ∧ yJ20_grow.cls ≠ "java/lang/invoke/VarHandle" ∧ (parseMethodDescriptor yJ20_grow.desc).map (fun d => d.parameters.length) = some 0 := by decide +kernel
theorem hdv_J20_grow_2 : yJ20_grow_2.cls = RJ20 ∧ yJ20_grow_2.cls ≠ "java/lang/invoke/MethodHandle" ∧ yJ20_grow_2.cls ≠ "java/lang/invoke/VarHandle" ∧ (parseMethodDescriptor yJ20_grow_2.desc).map (fun d => d.parameters.length) = some 1 := by decide +kernel
theorem hd_J20_init : yJ20_init.cls ≠ "java/lang/invoke/MethodHandle" ∧ yJ20_init.cls ≠ "java/lang/invoke/VarHandle" ∧ (parseMethodDescriptor yJ20_init.desc).map (fun d => d.parameters.length) = some 0 := by decide +kernel
theorem hdv_J20_iterator : yJ20_iterator.cls = RJ20 ∧ yJ20_iterator.cls ≠ "java/lang/invoke/MethodHandle" ∧ yJ20_iterator.cls ≠ "java/lang/invoke/VarHandle" ∧ (parseMethodDescriptor yJ20_iterator.desc).map (fun d => d.parameters.length) = some 0 := by decide +kernel
theorem hdv_J20_size : yJ20_size.cls = RJ20 ∧ yJ20_size.cls ≠ "java/lang/invoke/MethodHandle" ∧ yJ20_size.cls ≠ "java/lang/invoke/VarHandle" ∧ (parseMethodDescriptor yJ20_size.desc).map (fun d => d.parameters.length) = some 0 := by decide +kernel
theorem hd_J21_checkIndex : yJ21_checkIndex.cls ≠ "java/lang/invoke/MethodHandle" ∧ yJ21_checkIndex.cls ≠ "java/lang/invoke/VarHandle" ∧ (parseMethodDescriptor yJ21_checkIndex.desc).map (fun d => d.parameters.length) = some 2 := by decide +kernel
theorem hdv_J22_checkForComodification : yJ22_checkForComodification.cls = RJ22 ∧ yJ22_checkForComodification.cls ≠ "java/lang/invoke/MethodHandle" ∧ yJ22_checkForComodification.cls ≠ "java/lang/invoke/VarHandle" ∧ (parseMethodDescriptor yJ22_checkForComodification.desc).map (fun d => d.parameters.length) = some 0 := by decide +kernel
theorem hd_J22_hasNext : yJ22_hasNext.cls ≠ "java/lang/invoke/MethodHandle" ∧ yJ22_hasNext.cls ≠ "java/lang/invoke/VarHandle" ∧ (parseMethodDescriptor yJ22_hasNext.desc).map (fun d => d.parameters.length) = some 0 := by decide +kernel
theorem hd_J22_init : yJ22_init.cls ≠ "java/lang/invoke/MethodHandle" ∧ yJ22_init.cls ≠ "java/lang/invoke/VarHandle" ∧ (parseMethodDescriptor yJ22_init.desc).map (fun d => d.parameters.length) = some 1 := by decide +kernel
theorem hd_J22_next : yJ22_next.cls ≠ "java/lang/invoke/MethodHandle" ∧ yJ22_next.cls ≠ "java/lang/invoke/VarHandle" ∧ (parseMethodDescriptor yJ22_next.desc).map (fun d => d.parameters.length) = some 0 := by decide +kernel
theorem hd_J4_init_3 : yJ4_init_3.cls ≠ "java/lang/invoke/MethodHandle" ∧ yJ4_init_3.cls ≠ "java/lang/invoke/VarHandle" ∧ (parseMethodDescriptor yJ4_init_3.desc).map (fun d => d.parameters.length) = some 4 := by decide +kernel
theorem hd_J5_init_3 : yJ5_init_3.cls ≠ "java/lang/invoke/MethodHandle" ∧ yJ5_init_3.cls ≠ "java/lang/invoke/VarHandle" ∧ (parseMethodDescriptor yJ5_init_3.desc).map (fun d => d.parameters.length) = some 4 := by decide +kernel
theorem hd_J6_init_3 : yJ6_init_3.cls ≠ "java/lang/invoke/MethodHandle" ∧ yJ6_init_3.cls ≠ "java/lang/invoke/VarHandle" ∧ (parseMethodDescriptor yJ6_init_3.desc).map (fun d => d.parameters.length) = some 4 := by decide +kernel
theorem hd_J8_hugeLength : yJ8_hugeLength.cls ≠ "java/lang/invoke/MethodHandle" ∧ yJ8_hugeLength.cls ≠ "java/lang/invoke/VarHandle" ∧ (parseMethodDescriptor yJ8_hugeLength.desc).map (fun d => d.parameters.length) = some 2 := by decide +kernel
theorem hd_J8_newLength : yJ8_newLength.cls ≠ "java/lang/invoke/MethodHandle" ∧ yJ8_newLength.cls ≠ "java/lang/invoke/VarHandle" ∧ (parseMethodDescriptor yJ8_newLength.desc).map (fun d => d.parameters.length) = some 3 := by decide +kernel
theorem hd_J8_signedHashCode : yJ8_signedHashCode.cls ≠ "java/lang/invoke/MethodHandle" ∧ yJ8_signedHashCode.cls ≠ "java/lang/invoke/VarHandle" ∧ (parseMethodDescriptor yJ8_signedHashCode.desc).map (fun d => d.parameters.length) = some 4 := by decide +kernel
theorem hd_J8_vectorizedHashCode : yJ8_vectorizedHashCode.cls ≠ "java/lang/invoke/MethodHandle" ∧ yJ8_vectorizedHashCode.cls ≠ "java/lang/invoke/VarHandle" ∧ (parseMethodDescriptor yJ8_vectorizedHashCode.desc).map (fun d => d.parameters.length) = some 5 := by decide +kernel
theorem hd_J9_abs : yJ9_abs.cls ≠ "java/lang/invoke/MethodHandle" ∧ yJ9_abs.cls ≠ "java/lang/invoke/VarHandle" ∧ (parseMethodDescriptor yJ9_abs.desc).map (fun d => d.parameters.length) = some 1 := by decide +kernel
theorem hd_J9_addExact : yJ9_addExact.cls ≠ "java/lang/invoke/MethodHandle" ∧ yJ9_addExact.cls ≠ "java/lang/invoke/VarHandle" ∧ (parseMethodDescriptor yJ9_addExact.desc).map (fun d => d.parameters.length) = some 2 := by decide +kernel
theorem hd_J9_floorDiv : yJ9_floorDiv.cls ≠ "java/lang/invoke/MethodHandle" ∧ yJ9_floorDiv.cls ≠ "java/lang/invoke/VarHandle" ∧ (parseMethodDescriptor yJ9_floorDiv.desc).map (fun d => d.parameters.length) = some 2 := by decide +kernel
theorem hd_J9_floorMod : yJ9_floorMod.cls ≠ "java/lang/invoke/MethodHandle" ∧ yJ9_floorMod.cls ≠ "java/lang/invoke/VarHandle" ∧ (parseMethodDescriptor yJ9_floorMod.desc).map (fun d => d.parameters.length) = some 2 := by decide +kernel
theorem hd_J9_floorMod_2 : yJ9_floorMod_2.cls ≠ "java/lang/invoke/MethodHandle" ∧ yJ9_floorMod_2.cls ≠ "java/lang/invoke/VarHandle" ∧ (parseMethodDescriptor yJ9_floorMod_2.desc).map (fun d => d.parameters.length) = some 2 := by decide +kernel
theorem hd_J9_max : yJ9_max.cls ≠ "java/lang/invoke/MethodHandle" ∧ yJ9_max.cls ≠ "java/lang/invoke/VarHandle" ∧ (parseMethodDescriptor yJ9_max.desc).map (fun d => d.parameters.length) = some 2 := by decide +kernel
theorem hd_J9_min : yJ9_min.cls ≠ "java/lang/invoke/MethodHandle" ∧ yJ9_min.cls ≠ "java/lang/invoke/VarHandle" ∧ (parseMethodDescriptor yJ9_min.desc).map (fun d => d.parameters.length) = some 2 := by decide +kernel
theorem hd_J9_multiplyExact : yJ9_multiplyExact.cls ≠ "java/lang/invoke/MethodHandle" ∧ yJ9_multiplyExact.cls ≠ "java/lang/invoke/VarHandle" ∧ (parseMethodDescriptor yJ9_multiplyExact.desc).map (fun d => d.parameters.length) = some 2 := by decide +kernel
theorem hd_J9_toIntExact : yJ9_toIntExact.cls ≠ "java/lang/invoke/MethodHandle" ∧ yJ9_toIntExact.cls ≠ "java/lang/invoke/VarHandle" ∧ (parseMethodDescriptor yJ9_toIntExact.desc).map (fun d => d.parameters.length) = some 1 := by decide +kernel
theorem hdv_X0_asked : yX0_asked.cls = RX0 ∧ yX0_asked.cls ≠ "java/lang/invoke/MethodHandle" ∧ yX0_asked.cls ≠ "java/lang/invoke/VarHandle" ∧ (parseMethodDescriptor yX0_asked.desc).map (fun d => d.parameters.length) = some 1 := by decide +kernel
theorem hd_X0_degreeOf : yX0_degreeOf.cls ≠ "java/lang/invoke/MethodHandle" ∧ yX0_degreeOf.cls ≠ "java/lang/invoke/VarHandle" ∧ (parseMethodDescriptor yX0_degreeOf.desc).map (fun d => d.parameters.length) = some 1 := by decide +kernel
theorem hd_X0_degreeOf_2 : yX0_degreeOf_2.cls ≠ "java/lang/invoke/MethodHandle" ∧ yX0_degreeOf_2.cls ≠ "java/lang/invoke/VarHandle" ∧ (parseMethodDescriptor yX0_degreeOf_2.desc).map (fun d => d.parameters.length) = some 1 := by decide +kernel
theorem hdv_X0_divides : yX0_divides.cls = RX0 ∧ yX0_divides.cls ≠ "java/lang/invoke/MethodHandle" ∧ yX0_divides.cls ≠ "java/lang/invoke/VarHandle" ∧ (parseMethodDescriptor yX0_divides.desc).map (fun d => d.parameters.length) = some 2 := by decide +kernel
theorem hdv_X0_dividesResidues : yX0_dividesResidues.cls = RX0 ∧ yX0_dividesResidues.cls ≠ "java/lang/invoke/MethodHandle" ∧ yX0_dividesResidues.cls ≠ "java/lang/invoke/VarHandle" ∧ (parseMethodDescriptor yX0_dividesResidues.desc).map (fun d => d.parameters.length) = some 2 := by decide +kernel
theorem hd_X0_expanded : yX0_expanded.cls ≠ "java/lang/invoke/MethodHandle" ∧ yX0_expanded.cls ≠ "java/lang/invoke/VarHandle" ∧ (parseMethodDescriptor yX0_expanded.desc).map (fun d => d.parameters.length) = some 3 := by decide +kernel
theorem hdv_X0_expanded : yX0_expanded.cls = RX0 ∧ yX0_expanded.cls ≠ "java/lang/invoke/MethodHandle" ∧ yX0_expanded.cls ≠ "java/lang/invoke/VarHandle" ∧ (parseMethodDescriptor yX0_expanded.desc).map (fun d => d.parameters.length) = some 3 := by decide +kernel
theorem hd_X0_factorsOf : yX0_factorsOf.cls ≠ "java/lang/invoke/MethodHandle" ∧ yX0_factorsOf.cls ≠ "java/lang/invoke/VarHandle" ∧ (parseMethodDescriptor yX0_factorsOf.desc).map (fun d => d.parameters.length) = some 1 := by decide +kernel
theorem hdv_X0_factorsOf : yX0_factorsOf.cls = RX0 ∧ yX0_factorsOf.cls ≠ "java/lang/invoke/MethodHandle" ∧ yX0_factorsOf.cls ≠ "java/lang/invoke/VarHandle" ∧ (parseMethodDescriptor yX0_factorsOf.desc).map (fun d => d.parameters.length) = some 1 := by decide +kernel
theorem hdv_X0_gets : yX0_gets.cls = RX0 ∧ yX0_gets.cls ≠ "java/lang/invoke/MethodHandle" ∧ yX0_gets.cls ≠ "java/lang/invoke/VarHandle" ∧ (parseMethodDescriptor yX0_gets.desc).map (fun d => d.parameters.length) = some 2 := by decide +kernel
theorem hd_X0_in : yX0_in.cls ≠ "java/lang/invoke/MethodHandle" ∧ yX0_in.cls ≠ "java/lang/invoke/VarHandle" ∧ (parseMethodDescriptor yX0_in.desc).map (fun d => d.parameters.length) = some 3 := by decide +kernel
theorem hd_X0_inNumbers : yX0_inNumbers.cls ≠ "java/lang/invoke/MethodHandle" ∧ yX0_inNumbers.cls ≠ "java/lang/invoke/VarHandle" ∧ (parseMethodDescriptor yX0_inNumbers.desc).map (fun d => d.parameters.length) = some 1 := by decide +kernel
theorem hdv_X0_inNumbers : yX0_inNumbers.cls = RX0 ∧ yX0_inNumbers.cls ≠ "java/lang/invoke/MethodHandle" ∧ yX0_inNumbers.cls ≠ "java/lang/invoke/VarHandle" ∧ (parseMethodDescriptor yX0_inNumbers.desc).map (fun d => d.parameters.length) = some 1 := by decide +kernel
theorem hd_X0_inResidues : yX0_inResidues.cls ≠ "java/lang/invoke/MethodHandle" ∧ yX0_inResidues.cls ≠ "java/lang/invoke/VarHandle" ∧ (parseMethodDescriptor yX0_inResidues.desc).map (fun d => d.parameters.length) = some 1 := by decide +kernel
theorem hdv_X0_inResidues : yX0_inResidues.cls = RX0 ∧ yX0_inResidues.cls ≠ "java/lang/invoke/MethodHandle" ∧ yX0_inResidues.cls ≠ "java/lang/invoke/VarHandle" ∧ (parseMethodDescriptor yX0_inResidues.desc).map (fun d => d.parameters.length) = some 1 := by decide +kernel
theorem hdv_X0_inverse : yX0_inverse.cls = RX0 ∧ yX0_inverse.cls ≠ "java/lang/invoke/MethodHandle" ∧ yX0_inverse.cls ≠ "java/lang/invoke/VarHandle" ∧ (parseMethodDescriptor yX0_inverse.desc).map (fun d => d.parameters.length) = some 1 := by decide +kernel
theorem hd_X0_isMonic : yX0_isMonic.cls ≠ "java/lang/invoke/MethodHandle" ∧ yX0_isMonic.cls ≠ "java/lang/invoke/VarHandle" ∧ (parseMethodDescriptor yX0_isMonic.desc).map (fun d => d.parameters.length) = some 1 := by decide +kernel
theorem hd_X0_isPart : yX0_isPart.cls ≠ "java/lang/invoke/MethodHandle" ∧ yX0_isPart.cls ≠ "java/lang/invoke/VarHandle" ∧ (parseMethodDescriptor yX0_isPart.desc).map (fun d => d.parameters.length) = some 1 := by decide +kernel
theorem hd_X0_isSheet : yX0_isSheet.cls ≠ "java/lang/invoke/MethodHandle" ∧ yX0_isSheet.cls ≠ "java/lang/invoke/VarHandle" ∧ (parseMethodDescriptor yX0_isSheet.desc).map (fun d => d.parameters.length) = some 1 := by decide +kernel
theorem hd_X0_isSlot : yX0_isSlot.cls ≠ "java/lang/invoke/MethodHandle" ∧ yX0_isSlot.cls ≠ "java/lang/invoke/VarHandle" ∧ (parseMethodDescriptor yX0_isSlot.desc).map (fun d => d.parameters.length) = some 1 := by decide +kernel
theorem hdv_X0_knotAt : yX0_knotAt.cls = RX0 ∧ yX0_knotAt.cls ≠ "java/lang/invoke/MethodHandle" ∧ yX0_knotAt.cls ≠ "java/lang/invoke/VarHandle" ∧ (parseMethodDescriptor yX0_knotAt.desc).map (fun d => d.parameters.length) = some 1 := by decide +kernel
theorem hdv_X0_last : yX0_last.cls = RX0 ∧ yX0_last.cls ≠ "java/lang/invoke/MethodHandle" ∧ yX0_last.cls ≠ "java/lang/invoke/VarHandle" ∧ (parseMethodDescriptor yX0_last.desc).map (fun d => d.parameters.length) = some 1 := by decide +kernel
theorem hd_X0_limit : yX0_limit.cls ≠ "java/lang/invoke/MethodHandle" ∧ yX0_limit.cls ≠ "java/lang/invoke/VarHandle" ∧ (parseMethodDescriptor yX0_limit.desc).map (fun d => d.parameters.length) = some 0 := by decide +kernel
theorem hdv_X0_limit : yX0_limit.cls = RX0 ∧ yX0_limit.cls ≠ "java/lang/invoke/MethodHandle" ∧ yX0_limit.cls ≠ "java/lang/invoke/VarHandle" ∧ (parseMethodDescriptor yX0_limit.desc).map (fun d => d.parameters.length) = some 0 := by decide +kernel
theorem hd_X0_power : yX0_power.cls ≠ "java/lang/invoke/MethodHandle" ∧ yX0_power.cls ≠ "java/lang/invoke/VarHandle" ∧ (parseMethodDescriptor yX0_power.desc).map (fun d => d.parameters.length) = some 2 := by decide +kernel
theorem hd_X0_product : yX0_product.cls ≠ "java/lang/invoke/MethodHandle" ∧ yX0_product.cls ≠ "java/lang/invoke/VarHandle" ∧ (parseMethodDescriptor yX0_product.desc).map (fun d => d.parameters.length) = some 2 := by decide +kernel
theorem hdv_X0_sheetsThere : yX0_sheetsThere.cls = RX0 ∧ yX0_sheetsThere.cls ≠ "java/lang/invoke/MethodHandle" ∧ yX0_sheetsThere.cls ≠ "java/lang/invoke/VarHandle" ∧ (parseMethodDescriptor yX0_sheetsThere.desc).map (fun d => d.parameters.length) = some 0 := by decide +kernel
theorem hdv_X0_sideAt : yX0_sideAt.cls = RX0 ∧ yX0_sideAt.cls ≠ "java/lang/invoke/MethodHandle" ∧ yX0_sideAt.cls ≠ "java/lang/invoke/VarHandle" ∧ (parseMethodDescriptor yX0_sideAt.desc).map (fun d => d.parameters.length) = some 2 := by decide +kernel
theorem hdv_X0_sloped : yX0_sloped.cls = RX0 ∧ yX0_sloped.cls ≠ "java/lang/invoke/MethodHandle" ∧ yX0_sloped.cls ≠ "java/lang/invoke/VarHandle" ∧ (parseMethodDescriptor yX0_sloped.desc).map (fun d => d.parameters.length) = some 4 := by decide +kernel
theorem hdv_X0_slotsThere : yX0_slotsThere.cls = RX0 ∧ yX0_slotsThere.cls ≠ "java/lang/invoke/MethodHandle" ∧ yX0_slotsThere.cls ≠ "java/lang/invoke/VarHandle" ∧ (parseMethodDescriptor yX0_slotsThere.desc).map (fun d => d.parameters.length) = some 0 := by decide +kernel
theorem hdv_X0_taken : yX0_taken.cls = RX0 ∧ yX0_taken.cls ≠ "java/lang/invoke/MethodHandle" ∧ yX0_taken.cls ≠ "java/lang/invoke/VarHandle" ∧ (parseMethodDescriptor yX0_taken.desc).map (fun d => d.parameters.length) = some 0 := by decide +kernel
theorem hdv_X0_timesWith : yX0_timesWith.cls = RX0 ∧ yX0_timesWith.cls ≠ "java/lang/invoke/MethodHandle" ∧ yX0_timesWith.cls ≠ "java/lang/invoke/VarHandle" ∧ (parseMethodDescriptor yX0_timesWith.desc).map (fun d => d.parameters.length) = some 3 := by decide +kernel
theorem hd_X0_toldDegree : yX0_toldDegree.cls ≠ "java/lang/invoke/MethodHandle" ∧ yX0_toldDegree.cls ≠ "java/lang/invoke/VarHandle" ∧ (parseMethodDescriptor yX0_toldDegree.desc).map (fun d => d.parameters.length) = some 1 := by decide +kernel
theorem hdv_X0_tree : yX0_tree.cls = RX0 ∧ yX0_tree.cls ≠ "java/lang/invoke/MethodHandle" ∧ yX0_tree.cls ≠ "java/lang/invoke/VarHandle" ∧ (parseMethodDescriptor yX0_tree.desc).map (fun d => d.parameters.length) = some 1 := by decide +kernel
theorem hd_X0_valueOf : yX0_valueOf.cls ≠ "java/lang/invoke/MethodHandle" ∧ yX0_valueOf.cls ≠ "java/lang/invoke/VarHandle" ∧ (parseMethodDescriptor yX0_valueOf.desc).map (fun d => d.parameters.length) = some 1 := by decide +kernel
theorem hdv_X1_first : yX1_first.cls = RX1 ∧ yX1_first.cls ≠ "java/lang/invoke/MethodHandle" ∧ yX1_first.cls ≠ "java/lang/invoke/VarHandle" ∧ (parseMethodDescriptor yX1_first.desc).map (fun d => d.parameters.length) = some 0 := by decide +kernel
theorem hdv_X1_get : yX1_get.cls = RX1 ∧ yX1_get.cls ≠ "java/lang/invoke/MethodHandle" ∧ yX1_get.cls ≠ "java/lang/invoke/VarHandle" ∧ (parseMethodDescriptor yX1_get.desc).map (fun d => d.parameters.length) = some 1 := by decide +kernel
theorem hdv_X1_next : yX1_next.cls = RX1 ∧ yX1_next.cls ≠ "java/lang/invoke/MethodHandle" ∧ yX1_next.cls ≠ "java/lang/invoke/VarHandle" ∧ (parseMethodDescriptor yX1_next.desc).map (fun d => d.parameters.length) = some 1 := by decide +kernel
theorem hdv_X1_put : yX1_put.cls = RX1 ∧ yX1_put.cls ≠ "java/lang/invoke/MethodHandle" ∧ yX1_put.cls ≠ "java/lang/invoke/VarHandle" ∧ (parseMethodDescriptor yX1_put.desc).map (fun d => d.parameters.length) = some 2 := by decide +kernel
theorem hdv_X1_size : yX1_size.cls = RX1 ∧ yX1_size.cls ≠ "java/lang/invoke/MethodHandle" ∧ yX1_size.cls ≠ "java/lang/invoke/VarHandle" ∧ (parseMethodDescriptor yX1_size.desc).map (fun d => d.parameters.length) = some 0 := by decide +kernel
theorem hdv_X10_comes : yX10_comes.cls = RX10 ∧ yX10_comes.cls ≠ "java/lang/invoke/MethodHandle" ∧ yX10_comes.cls ≠ "java/lang/invoke/VarHandle" ∧ (parseMethodDescriptor yX10_comes.desc).map (fun d => d.parameters.length) = some 2 := by decide +kernel
theorem hd_X10_init : yX10_init.cls ≠ "java/lang/invoke/MethodHandle" ∧ yX10_init.cls ≠ "java/lang/invoke/VarHandle" ∧ (parseMethodDescriptor yX10_init.desc).map (fun d => d.parameters.length) = some 0 := by decide +kernel
theorem hd_X11_init : yX11_init.cls ≠ "java/lang/invoke/MethodHandle" ∧ yX11_init.cls ≠ "java/lang/invoke/VarHandle" ∧ (parseMethodDescriptor yX11_init.desc).map (fun d => d.parameters.length) = some 2 := by decide +kernel
theorem hds_X11_kind : yX11_kind.name ≠ "<init>" ∧ (parseMethodDescriptor yX11_kind.desc).map (fun d => d.parameters.length) = some 0 := by decide +kernel
theorem hds_X11_spelling : yX11_spelling.name ≠ "<init>" ∧ (parseMethodDescriptor yX11_spelling.desc).map (fun d => d.parameters.length) = some 0 := by decide +kernel
theorem hd_X12_init : yX12_init.cls ≠ "java/lang/invoke/MethodHandle" ∧ yX12_init.cls ≠ "java/lang/invoke/VarHandle" ∧ (parseMethodDescriptor yX12_init.desc).map (fun d => d.parameters.length) = some 2 := by decide +kernel
theorem hds_X12_kind : yX12_kind.name ≠ "<init>" ∧ (parseMethodDescriptor yX12_kind.desc).map (fun d => d.parameters.length) = some 0 := by decide +kernel
theorem hds_X12_spelling : yX12_spelling.name ≠ "<init>" ∧ (parseMethodDescriptor yX12_spelling.desc).map (fun d => d.parameters.length) = some 0 := by decide +kernel
theorem hd_X13_init : yX13_init.cls ≠ "java/lang/invoke/MethodHandle" ∧ yX13_init.cls ≠ "java/lang/invoke/VarHandle" ∧ (parseMethodDescriptor yX13_init.desc).map (fun d => d.parameters.length) = some 2 := by decide +kernel
theorem hd_X14_init : yX14_init.cls ≠ "java/lang/invoke/MethodHandle" ∧ yX14_init.cls ≠ "java/lang/invoke/VarHandle" ∧ (parseMethodDescriptor yX14_init.desc).map (fun d => d.parameters.length) = some 2 := by decide +kernel
theorem hd_X15_common : yX15_common.cls ≠ "java/lang/invoke/MethodHandle" ∧ yX15_common.cls ≠ "java/lang/invoke/VarHandle" ∧ (parseMethodDescriptor yX15_common.desc).map (fun d => d.parameters.length) = some 2 := by decide +kernel
theorem hd_X15_init : yX15_init.cls ≠ "java/lang/invoke/MethodHandle" ∧ yX15_init.cls ≠ "java/lang/invoke/VarHandle" ∧ (parseMethodDescriptor yX15_init.desc).map (fun d => d.parameters.length) = some 3 := by decide +kernel
theorem hd_X16_joined : yX16_joined.cls ≠ "java/lang/invoke/MethodHandle" ∧ yX16_joined.cls ≠ "java/lang/invoke/VarHandle" ∧ (parseMethodDescriptor yX16_joined.desc).map (fun d => d.parameters.length) = some 2 := by decide +kernel
theorem hdv_X3_here : yX3_here.cls = RX3 ∧ yX3_here.cls ≠ "java/lang/invoke/MethodHandle" ∧ yX3_here.cls ≠ "java/lang/invoke/VarHandle" ∧ (parseMethodDescriptor yX3_here.desc).map (fun d => d.parameters.length) = some 0 := by decide +kernel
theorem hd_X3_init : yX3_init.cls ≠ "java/lang/invoke/MethodHandle" ∧ yX3_init.cls ≠ "java/lang/invoke/VarHandle" ∧ (parseMethodDescriptor yX3_init.desc).map (fun d => d.parameters.length) = some 1 := by decide +kernel
theorem hdv_X3_isDigit : yX3_isDigit.cls = RX3 ∧ yX3_isDigit.cls ≠ "java/lang/invoke/MethodHandle" ∧ yX3_isDigit.cls ≠ "java/lang/invoke/VarHandle" ∧ (parseMethodDescriptor yX3_isDigit.desc).map (fun d => d.parameters.length) = some 0 := by decide +kernel
theorem hdv_X3_needs : yX3_needs.cls = RX3 ∧ yX3_needs.cls ≠ "java/lang/invoke/MethodHandle" ∧ yX3_needs.cls ≠ "java/lang/invoke/VarHandle" ∧ (parseMethodDescriptor yX3_needs.desc).map (fun d => d.parameters.length) = some 1 := by decide +kernel
theorem hdv_X3_number : yX3_number.cls = RX3 ∧ yX3_number.cls ≠ "java/lang/invoke/MethodHandle" ∧ yX3_number.cls ≠ "java/lang/invoke/VarHandle" ∧ (parseMethodDescriptor yX3_number.desc).map (fun d => d.parameters.length) = some 0 := by decide +kernel
theorem hdv_X3_reads : yX3_reads.cls = RX3 ∧ yX3_reads.cls ≠ "java/lang/invoke/MethodHandle" ∧ yX3_reads.cls ≠ "java/lang/invoke/VarHandle" ∧ (parseMethodDescriptor yX3_reads.desc).map (fun d => d.parameters.length) = some 0 := by decide +kernel
theorem hdv_X3_readsPower : yX3_readsPower.cls = RX3 ∧ yX3_readsPower.cls ≠ "java/lang/invoke/MethodHandle" ∧ yX3_readsPower.cls ≠ "java/lang/invoke/VarHandle" ∧ (parseMethodDescriptor yX3_readsPower.desc).map (fun d => d.parameters.length) = some 0 := by decide +kernel
theorem hdv_X3_readsSign : yX3_readsSign.cls = RX3 ∧ yX3_readsSign.cls ≠ "java/lang/invoke/MethodHandle" ∧ yX3_readsSign.cls ≠ "java/lang/invoke/VarHandle" ∧ (parseMethodDescriptor yX3_readsSign.desc).map (fun d => d.parameters.length) = some 0 := by decide +kernel
theorem hdv_X3_readsTerm : yX3_readsTerm.cls = RX3 ∧ yX3_readsTerm.cls ≠ "java/lang/invoke/MethodHandle" ∧ yX3_readsTerm.cls ≠ "java/lang/invoke/VarHandle" ∧ (parseMethodDescriptor yX3_readsTerm.desc).map (fun d => d.parameters.length) = some 1 := by decide +kernel
theorem hd_X4_init : yX4_init.cls ≠ "java/lang/invoke/MethodHandle" ∧ yX4_init.cls ≠ "java/lang/invoke/VarHandle" ∧ (parseMethodDescriptor yX4_init.desc).map (fun d => d.parameters.length) = some 1 := by decide +kernel
theorem hd_X5_init : yX5_init.cls ≠ "java/lang/invoke/MethodHandle" ∧ yX5_init.cls ≠ "java/lang/invoke/VarHandle" ∧ (parseMethodDescriptor yX5_init.desc).map (fun d => d.parameters.length) = some 2 := by decide +kernel
theorem hdv_X6_asNumbers : yX6_asNumbers.cls = RX6 ∧ yX6_asNumbers.cls ≠ "java/lang/invoke/MethodHandle" ∧ yX6_asNumbers.cls ≠ "java/lang/invoke/VarHandle" ∧ (parseMethodDescriptor yX6_asNumbers.desc).map (fun d => d.parameters.length) = some 2 := by decide +kernel
theorem hdv_X6_carries : yX6_carries.cls = RX6 ∧ yX6_carries.cls ≠ "java/lang/invoke/MethodHandle" ∧ yX6_carries.cls ≠ "java/lang/invoke/VarHandle" ∧ (parseMethodDescriptor yX6_carries.desc).map (fun d => d.parameters.length) = some 2 := by decide +kernel
theorem hdv_X6_findsSides : yX6_findsSides.cls = RX6 ∧ yX6_findsSides.cls ≠ "java/lang/invoke/MethodHandle" ∧ yX6_findsSides.cls ≠ "java/lang/invoke/VarHandle" ∧ (parseMethodDescriptor yX6_findsSides.desc).map (fun d => d.parameters.length) = some 1 := by decide +kernel
theorem hdv_X6_grows : yX6_grows.cls = RX6 ∧ yX6_grows.cls ≠ "java/lang/invoke/MethodHandle" ∧ yX6_grows.cls ≠ "java/lang/invoke/VarHandle" ∧ (parseMethodDescriptor yX6_grows.desc).map (fun d => d.parameters.length) = some 1 := by decide +kernel
theorem hdv_X6_headOf : yX6_headOf.cls = RX6 ∧ yX6_headOf.cls ≠ "java/lang/invoke/MethodHandle" ∧ yX6_headOf.cls ≠ "java/lang/invoke/VarHandle" ∧ (parseMethodDescriptor yX6_headOf.desc).map (fun d => d.parameters.length) = some 2 := by decide +kernel
theorem hdv_X6_index : yX6_index.cls = RX6 ∧ yX6_index.cls ≠ "java/lang/invoke/MethodHandle" ∧ yX6_index.cls ≠ "java/lang/invoke/VarHandle" ∧ (parseMethodDescriptor yX6_index.desc).map (fun d => d.parameters.length) = some 0 := by decide +kernel
theorem hd_X6_init : yX6_init.cls ≠ "java/lang/invoke/MethodHandle" ∧ yX6_init.cls ≠ "java/lang/invoke/VarHandle" ∧ (parseMethodDescriptor yX6_init.desc).map (fun d => d.parameters.length) = some 2 := by decide +kernel
theorem hdv_X6_levels : yX6_levels.cls = RX6 ∧ yX6_levels.cls ≠ "java/lang/invoke/MethodHandle" ∧ yX6_levels.cls ≠ "java/lang/invoke/VarHandle" ∧ (parseMethodDescriptor yX6_levels.desc).map (fun d => d.parameters.length) = some 0 := by decide +kernel
theorem hdv_X6_looks : yX6_looks.cls = RX6 ∧ yX6_looks.cls ≠ "java/lang/invoke/MethodHandle" ∧ yX6_looks.cls ≠ "java/lang/invoke/VarHandle" ∧ (parseMethodDescriptor yX6_looks.desc).map (fun d => d.parameters.length) = some 5 := by decide +kernel
theorem hdv_X6_meets : yX6_meets.cls = RX6 ∧ yX6_meets.cls ≠ "java/lang/invoke/MethodHandle" ∧ yX6_meets.cls ≠ "java/lang/invoke/VarHandle" ∧ (parseMethodDescriptor yX6_meets.desc).map (fun d => d.parameters.length) = some 4 := by decide +kernel
theorem hdv_X6_nextKey : yX6_nextKey.cls = RX6 ∧ yX6_nextKey.cls ≠ "java/lang/invoke/MethodHandle" ∧ yX6_nextKey.cls ≠ "java/lang/invoke/VarHandle" ∧ (parseMethodDescriptor yX6_nextKey.desc).map (fun d => d.parameters.length) = some 3 := by decide +kernel
theorem hdv_X6_ofValue : yX6_ofValue.cls = RX6 ∧ yX6_ofValue.cls ≠ "java/lang/invoke/MethodHandle" ∧ yX6_ofValue.cls ≠ "java/lang/invoke/VarHandle" ∧ (parseMethodDescriptor yX6_ofValue.desc).map (fun d => d.parameters.length) = some 2 := by decide +kernel
theorem hdv_X6_open : yX6_open.cls = RX6 ∧ yX6_open.cls ≠ "java/lang/invoke/MethodHandle" ∧ yX6_open.cls ≠ "java/lang/invoke/VarHandle" ∧ (parseMethodDescriptor yX6_open.desc).map (fun d => d.parameters.length) = some 0 := by decide +kernel
theorem hdv_X6_pointsBelow : yX6_pointsBelow.cls = RX6 ∧ yX6_pointsBelow.cls ≠ "java/lang/invoke/MethodHandle" ∧ yX6_pointsBelow.cls ≠ "java/lang/invoke/VarHandle" ∧ (parseMethodDescriptor yX6_pointsBelow.desc).map (fun d => d.parameters.length) = some 1 := by decide +kernel
theorem hdv_X6_sideOf : yX6_sideOf.cls = RX6 ∧ yX6_sideOf.cls ≠ "java/lang/invoke/MethodHandle" ∧ yX6_sideOf.cls ≠ "java/lang/invoke/VarHandle" ∧ (parseMethodDescriptor yX6_sideOf.desc).map (fun d => d.parameters.length) = some 3 := by decide +kernel
theorem hdv_X6_spelling : yX6_spelling.cls = RX6 ∧ yX6_spelling.cls ≠ "java/lang/invoke/MethodHandle" ∧ yX6_spelling.cls ≠ "java/lang/invoke/VarHandle" ∧ (parseMethodDescriptor yX6_spelling.desc).map (fun d => d.parameters.length) = some 0 := by decide +kernel
theorem hdv_X6_splits : yX6_splits.cls = RX6 ∧ yX6_splits.cls ≠ "java/lang/invoke/MethodHandle" ∧ yX6_splits.cls ≠ "java/lang/invoke/VarHandle" ∧ (parseMethodDescriptor yX6_splits.desc).map (fun d => d.parameters.length) = some 3 := by decide +kernel
theorem hdv_X6_wild : yX6_wild.cls = RX6 ∧ yX6_wild.cls ≠ "java/lang/invoke/MethodHandle" ∧ yX6_wild.cls ≠ "java/lang/invoke/VarHandle" ∧ (parseMethodDescriptor yX6_wild.desc).map (fun d => d.parameters.length) = some 0 := by decide +kernel
theorem hd_X7_init : yX7_init.cls ≠ "java/lang/invoke/MethodHandle" ∧ yX7_init.cls ≠ "java/lang/invoke/VarHandle" ∧ (parseMethodDescriptor yX7_init.desc).map (fun d => d.parameters.length) = some 1 := by decide +kernel
theorem hd_X8_init : yX8_init.cls ≠ "java/lang/invoke/MethodHandle" ∧ yX8_init.cls ≠ "java/lang/invoke/VarHandle" ∧ (parseMethodDescriptor yX8_init.desc).map (fun d => d.parameters.length) = some 3 := by decide +kernel
theorem hds_X8_kind : yX8_kind.name ≠ "<init>" ∧ (parseMethodDescriptor yX8_kind.desc).map (fun d => d.parameters.length) = some 0 := by decide +kernel
theorem hds_X8_spelling : yX8_spelling.name ≠ "<init>" ∧ (parseMethodDescriptor yX8_spelling.desc).map (fun d => d.parameters.length) = some 0 := by decide +kernel
theorem hdv_X9_at : yX9_at.cls = RX9 ∧ yX9_at.cls ≠ "java/lang/invoke/MethodHandle" ∧ yX9_at.cls ≠ "java/lang/invoke/VarHandle" ∧ (parseMethodDescriptor yX9_at.desc).map (fun d => d.parameters.length) = some 1 := by decide +kernel
theorem hdv_X9_behind : yX9_behind.cls = RX9 ∧ yX9_behind.cls ≠ "java/lang/invoke/MethodHandle" ∧ yX9_behind.cls ≠ "java/lang/invoke/VarHandle" ∧ (parseMethodDescriptor yX9_behind.desc).map (fun d => d.parameters.length) = some 1 := by decide +kernel
theorem hd_X9_init : yX9_init.cls ≠ "java/lang/invoke/MethodHandle" ∧ yX9_init.cls ≠ "java/lang/invoke/VarHandle" ∧ (parseMethodDescriptor yX9_init.desc).map (fun d => d.parameters.length) = some 6 := by decide +kernel
theorem hdv_X9_rootBehind : yX9_rootBehind.cls = RX9 ∧ yX9_rootBehind.cls ≠ "java/lang/invoke/MethodHandle" ∧ yX9_rootBehind.cls ≠ "java/lang/invoke/VarHandle" ∧ (parseMethodDescriptor yX9_rootBehind.desc).map (fun d => d.parameters.length) = some 1 := by decide +kernel
theorem hdv_X9_worthOf : yX9_worthOf.cls = RX9 ∧ yX9_worthOf.cls ≠ "java/lang/invoke/MethodHandle" ∧ yX9_worthOf.cls ≠ "java/lang/invoke/VarHandle" ∧ (parseMethodDescriptor yX9_worthOf.desc).map (fun d => d.parameters.length) = some 1 := by decide +kernel
theorem hdo_0 : "java/lang/AbstractStringBuilder" ≠ "java/lang/invoke/MethodHandle" ∧ "java/lang/AbstractStringBuilder" ≠ "java/lang/invoke/VarHandle" ∧ (parseMethodDescriptor "(I)I").map (fun d => d.parameters.length) = some 1 := by decide +kernel
theorem hdo_1 : "java/lang/AbstractStringBuilder" ≠ "java/lang/invoke/MethodHandle" ∧ "java/lang/AbstractStringBuilder" ≠ "java/lang/invoke/VarHandle" ∧ (parseMethodDescriptor "()Z").map (fun d => d.parameters.length) = some 0 := by decide +kernel
theorem hdo_2 : "java/lang/AbstractStringBuilder" ≠ "java/lang/invoke/MethodHandle" ∧ "java/lang/AbstractStringBuilder" ≠ "java/lang/invoke/VarHandle" ∧ (parseMethodDescriptor "(I)V").map (fun d => d.parameters.length) = some 1 := by decide +kernel
theorem hdo_3 : "java/lang/AbstractStringBuilder" ≠ "java/lang/invoke/MethodHandle" ∧ "java/lang/AbstractStringBuilder" ≠ "java/lang/invoke/VarHandle" ∧ (parseMethodDescriptor "()V").map (fun d => d.parameters.length) = some 0 := by decide +kernel
theorem hdo_4 : "java/lang/AbstractStringBuilder" ≠ "java/lang/invoke/MethodHandle" ∧ "java/lang/AbstractStringBuilder" ≠ "java/lang/invoke/VarHandle" ∧ (parseMethodDescriptor "()[B").map (fun d => d.parameters.length) = some 0 := by decide +kernel
theorem hdo_5 : "java/lang/AbstractStringBuilder" ≠ "java/lang/invoke/MethodHandle" ∧ "java/lang/AbstractStringBuilder" ≠ "java/lang/invoke/VarHandle" ∧ (parseMethodDescriptor "()I").map (fun d => d.parameters.length) = some 0 := by decide +kernel
theorem hdo_6 : "java/lang/CharSequence" ≠ "java/lang/invoke/MethodHandle" ∧ "java/lang/CharSequence" ≠ "java/lang/invoke/VarHandle" ∧ (parseMethodDescriptor "()I").map (fun d => d.parameters.length) = some 0 := by decide +kernel
theorem hdo_7 : "java/lang/CharSequence" ≠ "java/lang/invoke/MethodHandle" ∧ "java/lang/CharSequence" ≠ "java/lang/invoke/VarHandle" ∧ (parseMethodDescriptor "(I)C").map (fun d => d.parameters.length) = some 1 := by decide +kernel
theorem hdo_8 : "TypesAtPrime$Leaf" ≠ "java/lang/invoke/MethodHandle" ∧ "TypesAtPrime$Leaf" ≠ "java/lang/invoke/VarHandle" ∧ (parseMethodDescriptor "()I").map (fun d => d.parameters.length) = some 0 := by decide +kernel
theorem hdo_9 : "java/lang/AbstractStringBuilder" ≠ "java/lang/invoke/MethodHandle" ∧ "java/lang/AbstractStringBuilder" ≠ "java/lang/invoke/VarHandle" ∧ (parseMethodDescriptor "(Ljava/lang/String;)V").map (fun d => d.parameters.length) = some 1 := by decide +kernel
theorem hdo_10 : "java/lang/AbstractStringBuilder" ≠ "java/lang/invoke/MethodHandle" ∧ "java/lang/AbstractStringBuilder" ≠ "java/lang/invoke/VarHandle" ∧ (parseMethodDescriptor "(ILjava/lang/String;)V").map (fun d => d.parameters.length) = some 2 := by decide +kernel
theorem hdo_11 : "java/lang/AbstractStringBuilder" ≠ "java/lang/invoke/MethodHandle" ∧ "java/lang/AbstractStringBuilder" ≠ "java/lang/invoke/VarHandle" ∧ (parseMethodDescriptor "(Ljava/lang/String;)Ljava/lang/AbstractStringBuilder;").map (fun d => d.parameters.length) = some 1 := by decide +kernel
theorem hdo_12 : "java/lang/Object" ≠ "java/lang/invoke/MethodHandle" ∧ "java/lang/Object" ≠ "java/lang/invoke/VarHandle" ∧ (parseMethodDescriptor "()Ljava/lang/String;").map (fun d => d.parameters.length) = some 0 := by decide +kernel
theorem hdo_13 : "TypesAtPrime$Spelt" ≠ "java/lang/invoke/MethodHandle" ∧ "TypesAtPrime$Spelt" ≠ "java/lang/invoke/VarHandle" ∧ (parseMethodDescriptor "()Ljava/lang/CharSequence;").map (fun d => d.parameters.length) = some 0 := by decide +kernel
theorem hdo_14 : "TypesAtPrime$Spelt" ≠ "java/lang/invoke/MethodHandle" ∧ "TypesAtPrime$Spelt" ≠ "java/lang/invoke/VarHandle" ∧ (parseMethodDescriptor "()I").map (fun d => d.parameters.length) = some 0 := by decide +kernel
section HFLD
variable {p : Program} {l : Launch} {e : Env} {R : Room} {s : State} {m : MethodId} {args : Array Value} {below : List Frame} {meth : Method} {c : Code} {H : Heap} {locs : List Loc} {cells slots : Nat} {Q : State → Prop}
variable {cc : ByteArray} {pc : Nat} {ls : Array Slot} {rest : List Value} {G : hG} {A : Nat → Prop} {S S_0 : hH} {a : Nat}
theorem hg_J0_15 (hx : p.tables.exec = Jvm.exec) (hb : c.code = cc) (hts : ∀ w ∈ lw_all, w.before args s = true) (hown : s.vm.findClass RJ0 = some m.cls) (hE : hEnv G A s) (hRR : hRep G s S H) (hg : hoR S a 7 0) (hdg : decode cc pc = .ok (.getfield 15, 3)) (kk : W p l e R s m args below meth c H locs cells slots Q (F0 m (pc + 3) ls (.ref (hfR S a 0) :: rest))) : W p l e R s m args below meth c H locs cells slots Q (F0 m pc ls (.ref a :: rest)) := by
  obtain ⟨fs, v, hS, hv⟩ := hg
  have e : hfR S a 0 = v := by simp [hfR, hS, hv]
  rw [e] at kk
  exact hh_get hx hb hts hown hE hRR in_J1 (by rfl : hcl[7]? = _) rfl 0 (by decide) rfl rfl (hlk_o hts q266) (fun _ h => h) hS hv hdg kk
theorem hp_J0_15 {v : Value} (hx : p.tables.exec = Jvm.exec) (hb : c.code = cc) (hts : ∀ w ∈ lw_all, w.before args s = true) (hown : s.vm.findClass RJ0 = some m.cls) (hE : hEnv G A s) (hRR : hRep G s S H) (hDD : hDom A s.heap S_0 S) (hS : va_S A s.heap H locs) (hg : hoP S a 7 0) (hdg : decode cc pc = .ok (.putfield 15, 3)) (kk : ∀ (S1 : hH), S1 = hpF S a 0 v → ∀ (H : Heap) (locs : List Loc), hRep G s S1 H → hDom A s.heap S_0 S1 → va_S A s.heap H locs → W p l e R s m args below meth c H locs cells slots Q (F0 m (pc + 3) ls rest)) (hz : v = .null ∨ ∃ b, v = .ref b := by first | exact Or.inl rfl | exact Or.inr ⟨_, rfl⟩ | exact va_rf_or _) : W p l e R s m args below meth c H locs cells slots Q (F0 m pc ls (v :: .ref a :: rest)) := by
  exact hh_put hx hb hts hown hE hRR hDD hS in_J1 (by rfl : hcl[7]? = _) rfl tyJ1 tyJ1_ok nmJ1 0 (by decide) rfl rfl (hlk_o hts q266) (fun _ h => h) rfl (by rcases hz with rfl | ⟨b, rfl⟩ <;> rfl) (by rcases hz with rfl | ⟨b, rfl⟩ <;> rfl) hg hdg kk
theorem hg_J0_22 (hx : p.tables.exec = Jvm.exec) (hb : c.code = cc) (hts : ∀ w ∈ lw_all, w.before args s = true) (hown : s.vm.findClass RJ0 = some m.cls) (hE : hEnv G A s) (hRR : hRep G s S H) (hg : hoI S a 7 1) (hdg : decode cc pc = .ok (.getfield 22, 3)) (kk : W p l e R s m args below meth c H locs cells slots Q (F0 m (pc + 3) ls (.int (hfI S a 1) :: rest))) : W p l e R s m args below meth c H locs cells slots Q (F0 m pc ls (.ref a :: rest)) := by
  obtain ⟨fs, v, hS, hv⟩ := hg
  have e : hfI S a 1 = v := by simp [hfI, hS, hv]
  rw [e] at kk
  exact hh_get hx hb hts hown hE hRR in_J1 (by rfl : hcl[7]? = _) rfl 1 (by decide) rfl rfl (hlk_o hts q267) (fun _ h => h) hS hv hdg kk
theorem hp_J0_22 {v : Int32} (hx : p.tables.exec = Jvm.exec) (hb : c.code = cc) (hts : ∀ w ∈ lw_all, w.before args s = true) (hown : s.vm.findClass RJ0 = some m.cls) (hE : hEnv G A s) (hRR : hRep G s S H) (hDD : hDom A s.heap S_0 S) (hS : va_S A s.heap H locs) (hz : narrow .byte (.int v) = .int v) (hg : hoP S a 7 1) (hdg : decode cc pc = .ok (.putfield 22, 3)) (kk : ∀ (S1 : hH), S1 = hpF S a 1 (.int v) → ∀ (H : Heap) (locs : List Loc), hRep G s S1 H → hDom A s.heap S_0 S1 → va_S A s.heap H locs → W p l e R s m args below meth c H locs cells slots Q (F0 m (pc + 3) ls rest)) : W p l e R s m args below meth c H locs cells slots Q (F0 m pc ls ((.int v) :: .ref a :: rest)) := by
  exact hh_put hx hb hts hown hE hRR hDD hS in_J1 (by rfl : hcl[7]? = _) rfl tyJ1 tyJ1_ok nmJ1 1 (by decide) rfl rfl (hlk_o hts q267) (fun _ h => h) rfl hz (by rw [← hz]; first | rfl | exact fits_nar_z _ | exact fits_nar_b _) hg hdg kk
theorem hp_J0_73 {v : Int32} (hx : p.tables.exec = Jvm.exec) (hb : c.code = cc) (hts : ∀ w ∈ lw_all, w.before args s = true) (hown : s.vm.findClass RJ0 = some m.cls) (hE : hEnv G A s) (hRR : hRep G s S H) (hDD : hDom A s.heap S_0 S) (hS : va_S A s.heap H locs) (hz : narrow .boolean (.int v) = .int v) (hg : hoP S a 7 2) (hdg : decode cc pc = .ok (.putfield 73, 3)) (kk : ∀ (S1 : hH), S1 = hpF S a 2 (.int v) → ∀ (H : Heap) (locs : List Loc), hRep G s S1 H → hDom A s.heap S_0 S1 → va_S A s.heap H locs → W p l e R s m args below meth c H locs cells slots Q (F0 m (pc + 3) ls rest)) : W p l e R s m args below meth c H locs cells slots Q (F0 m pc ls ((.int v) :: .ref a :: rest)) := by
  exact hh_put hx hb hts hown hE hRR hDD hS in_J1 (by rfl : hcl[7]? = _) rfl tyJ1 tyJ1_ok nmJ1 2 (by decide) rfl rfl (hlk_o hts q268) (fun _ h => h) rfl hz (by rw [← hz]; first | rfl | exact fits_nar_z _ | exact fits_nar_b _) hg hdg kk
theorem hg_J0_79 (hx : p.tables.exec = Jvm.exec) (hb : c.code = cc) (hts : ∀ w ∈ lw_all, w.before args s = true) (hown : s.vm.findClass RJ0 = some m.cls) (hE : hEnv G A s) (hRR : hRep G s S H) (hg : hoI S a 7 3) (hdg : decode cc pc = .ok (.getfield 79, 3)) (kk : W p l e R s m args below meth c H locs cells slots Q (F0 m (pc + 3) ls (.int (hfI S a 3) :: rest))) : W p l e R s m args below meth c H locs cells slots Q (F0 m pc ls (.ref a :: rest)) := by
  obtain ⟨fs, v, hS, hv⟩ := hg
  have e : hfI S a 3 = v := by simp [hfI, hS, hv]
  rw [e] at kk
  exact hh_get hx hb hts hown hE hRR in_J1 (by rfl : hcl[7]? = _) rfl 3 (by decide) rfl rfl (hlk_o hts q270) (fun _ h => h) hS hv hdg kk
theorem hp_J0_79 {v : Int32} (hx : p.tables.exec = Jvm.exec) (hb : c.code = cc) (hts : ∀ w ∈ lw_all, w.before args s = true) (hown : s.vm.findClass RJ0 = some m.cls) (hE : hEnv G A s) (hRR : hRep G s S H) (hDD : hDom A s.heap S_0 S) (hS : va_S A s.heap H locs) (hg : hoP S a 7 3) (hdg : decode cc pc = .ok (.putfield 79, 3)) (kk : ∀ (S1 : hH), S1 = hpF S a 3 (.int v) → ∀ (H : Heap) (locs : List Loc), hRep G s S1 H → hDom A s.heap S_0 S1 → va_S A s.heap H locs → W p l e R s m args below meth c H locs cells slots Q (F0 m (pc + 3) ls rest)) : W p l e R s m args below meth c H locs cells slots Q (F0 m pc ls ((.int v) :: .ref a :: rest)) := by
  exact hh_put hx hb hts hown hE hRR hDD hS in_J1 (by rfl : hcl[7]? = _) rfl tyJ1 tyJ1_ok nmJ1 3 (by decide) rfl rfl (hlk_o hts q270) (fun _ h => h) rfl rfl rfl hg hdg kk
theorem hp_J19_7 {v : Int32} (hx : p.tables.exec = Jvm.exec) (hb : c.code = cc) (hts : ∀ w ∈ lw_all, w.before args s = true) (hown : s.vm.findClass RJ19 = some m.cls) (hE : hEnv G A s) (hRR : hRep G s S H) (hDD : hDom A s.heap S_0 S) (hS : va_S A s.heap H locs) (hg : hoP S a 16 0) (hdg : decode cc pc = .ok (.putfield 7, 3)) (kk : ∀ (S1 : hH), S1 = hpF S a 0 (.int v) → ∀ (H : Heap) (locs : List Loc), hRep G s S1 H → hDom A s.heap S_0 S1 → va_S A s.heap H locs → W p l e R s m args below meth c H locs cells slots Q (F0 m (pc + 3) ls rest)) : W p l e R s m args below meth c H locs cells slots Q (F0 m pc ls ((.int v) :: .ref a :: rest)) := by
  exact hh_put hx hb hts hown hE hRR hDD hS in_J20 (by rfl : hcl[16]? = _) rfl tyJ20 tyJ20_ok nmJ20 0 (by decide) rfl rfl (hlk_o hts q494) (fun _ h => h) rfl rfl rfl hg hdg kk
theorem hg_J2_9 (hx : p.tables.exec = Jvm.exec) (hb : c.code = cc) (hts : ∀ w ∈ lw_all, w.before args s = true) (hown : s.vm.findClass RJ2 = some m.cls) (hE : hEnv G A s) (hRR : hRep G s S H) (hg : hoRs S a [18, 19] 0) (hdg : decode cc pc = .ok (.getfield 9, 3)) (kk : W p l e R s m args below meth c H locs cells slots Q (F0 m (pc + 3) ls (.ref (hfR S a 0) :: rest))) : W p l e R s m args below meth c H locs cells slots Q (F0 m pc ls (.ref a :: rest)) := by
  obtain ⟨ci, hci, hg⟩ := hg
  simp only [List.mem_cons, List.not_mem_nil, or_false] at hci
  rcases hci with rfl | rfl
  · obtain ⟨fs, v, hS, hv⟩ := hg
    have e : hfR S a 0 = v := by simp [hfR, hS, hv]
    rw [e] at kk
    exact hh_get hx hb hts hown hE hRR in_J2 (by rfl : hcl[18]? = _) rfl 0 (by decide) rfl rfl (hlk_o hts q860) (fun _ h => h) hS hv hdg kk
  · obtain ⟨fs, v, hS, hv⟩ := hg
    have e : hfR S a 0 = v := by simp [hfR, hS, hv]
    rw [e] at kk
    exact hh_getK hx hb hown hRR 0 (by decide) rfl rfl q860 hts (fun _ h => h) hS hv hdg kk
theorem hp_J2_9 {v : Value} (hx : p.tables.exec = Jvm.exec) (hb : c.code = cc) (hts : ∀ w ∈ lw_all, w.before args s = true) (hown : s.vm.findClass RJ2 = some m.cls) (hE : hEnv G A s) (hRR : hRep G s S H) (hDD : hDom A s.heap S_0 S) (hS : va_S A s.heap H locs) (hmn : meth.name = "<init>") (hg : hoP S a 18 0) (hdg : decode cc pc = .ok (.putfield 9, 3)) (kk : ∀ (S1 : hH), S1 = hpF S a 0 v → ∀ (H : Heap) (locs : List Loc), hRep G s S1 H → hDom A s.heap S_0 S1 → va_S A s.heap H locs → W p l e R s m args below meth c H locs cells slots Q (F0 m (pc + 3) ls rest)) (hz : v = .null ∨ ∃ b, v = .ref b := by first | exact Or.inl rfl | exact Or.inr ⟨_, rfl⟩ | exact va_rf_or _) : W p l e R s m args below meth c H locs cells slots Q (F0 m pc ls (v :: .ref a :: rest)) := by
  exact hh_putF hx hb hts hown hE hRR hDD hS in_J2 (by rfl : hcl[18]? = _) rfl tyJ2 tyJ2_ok nmJ2 0 (by decide) rfl rfl (hts _ q860) (fun _ h => h) rfl hmn rfl (by rcases hz with rfl | ⟨b, rfl⟩ <;> rfl) (by rcases hz with rfl | ⟨b, rfl⟩ <;> rfl) hg hdg kk
theorem hg_J2_15 (hx : p.tables.exec = Jvm.exec) (hb : c.code = cc) (hts : ∀ w ∈ lw_all, w.before args s = true) (hown : s.vm.findClass RJ2 = some m.cls) (hE : hEnv G A s) (hRR : hRep G s S H) (hg : hoIs S a [18, 19] 1) (hdg : decode cc pc = .ok (.getfield 15, 3)) (kk : W p l e R s m args below meth c H locs cells slots Q (F0 m (pc + 3) ls (.int (hfI S a 1) :: rest))) : W p l e R s m args below meth c H locs cells slots Q (F0 m pc ls (.ref a :: rest)) := by
  obtain ⟨ci, hci, hg⟩ := hg
  simp only [List.mem_cons, List.not_mem_nil, or_false] at hci
  rcases hci with rfl | rfl
  · obtain ⟨fs, v, hS, hv⟩ := hg
    have e : hfI S a 1 = v := by simp [hfI, hS, hv]
    rw [e] at kk
    exact hh_get hx hb hts hown hE hRR in_J2 (by rfl : hcl[18]? = _) rfl 1 (by decide) rfl rfl (hlk_o hts q861) (fun _ h => h) hS hv hdg kk
  · obtain ⟨fs, v, hS, hv⟩ := hg
    have e : hfI S a 1 = v := by simp [hfI, hS, hv]
    rw [e] at kk
    exact hh_getK hx hb hown hRR 1 (by decide) rfl rfl q861 hts (fun _ h => h) hS hv hdg kk
theorem hp_J2_15 {v : Int32} (hx : p.tables.exec = Jvm.exec) (hb : c.code = cc) (hts : ∀ w ∈ lw_all, w.before args s = true) (hown : s.vm.findClass RJ2 = some m.cls) (hE : hEnv G A s) (hRR : hRep G s S H) (hDD : hDom A s.heap S_0 S) (hS : va_S A s.heap H locs) (hmn : meth.name = "<init>") (hz : narrow .byte (.int v) = .int v) (hg : hoP S a 18 1) (hdg : decode cc pc = .ok (.putfield 15, 3)) (kk : ∀ (S1 : hH), S1 = hpF S a 1 (.int v) → ∀ (H : Heap) (locs : List Loc), hRep G s S1 H → hDom A s.heap S_0 S1 → va_S A s.heap H locs → W p l e R s m args below meth c H locs cells slots Q (F0 m (pc + 3) ls rest)) : W p l e R s m args below meth c H locs cells slots Q (F0 m pc ls ((.int v) :: .ref a :: rest)) := by
  exact hh_putF hx hb hts hown hE hRR hDD hS in_J2 (by rfl : hcl[18]? = _) rfl tyJ2 tyJ2_ok nmJ2 1 (by decide) rfl rfl (hts _ q861) (fun _ h => h) rfl hmn rfl hz (by rw [← hz]; first | rfl | exact fits_nar_z _ | exact fits_nar_b _) hg hdg kk
theorem hg_J2_19 (hx : p.tables.exec = Jvm.exec) (hb : c.code = cc) (hts : ∀ w ∈ lw_all, w.before args s = true) (hown : s.vm.findClass RJ2 = some m.cls) (hE : hEnv G A s) (hRR : hRep G s S H) (hg : hoIs S a [18, 19] 2) (hdg : decode cc pc = .ok (.getfield 19, 3)) (kk : W p l e R s m args below meth c H locs cells slots Q (F0 m (pc + 3) ls (.int (hfI S a 2) :: rest))) : W p l e R s m args below meth c H locs cells slots Q (F0 m pc ls (.ref a :: rest)) := by
  obtain ⟨ci, hci, hg⟩ := hg
  simp only [List.mem_cons, List.not_mem_nil, or_false] at hci
  rcases hci with rfl | rfl
  · obtain ⟨fs, v, hS, hv⟩ := hg
    have e : hfI S a 2 = v := by simp [hfI, hS, hv]
    rw [e] at kk
    exact hh_get hx hb hts hown hE hRR in_J2 (by rfl : hcl[18]? = _) rfl 2 (by decide) rfl rfl (hlk_o hts q862) (fun _ h => h) hS hv hdg kk
  · obtain ⟨fs, v, hS, hv⟩ := hg
    have e : hfI S a 2 = v := by simp [hfI, hS, hv]
    rw [e] at kk
    exact hh_getK hx hb hown hRR 2 (by decide) rfl rfl q862 hts (fun _ h => h) hS hv hdg kk
theorem hp_J2_19 {v : Int32} (hx : p.tables.exec = Jvm.exec) (hb : c.code = cc) (hts : ∀ w ∈ lw_all, w.before args s = true) (hown : s.vm.findClass RJ2 = some m.cls) (hE : hEnv G A s) (hRR : hRep G s S H) (hDD : hDom A s.heap S_0 S) (hS : va_S A s.heap H locs) (hg : hoP S a 18 2) (hdg : decode cc pc = .ok (.putfield 19, 3)) (kk : ∀ (S1 : hH), S1 = hpF S a 2 (.int v) → ∀ (H : Heap) (locs : List Loc), hRep G s S1 H → hDom A s.heap S_0 S1 → va_S A s.heap H locs → W p l e R s m args below meth c H locs cells slots Q (F0 m (pc + 3) ls rest)) : W p l e R s m args below meth c H locs cells slots Q (F0 m pc ls ((.int v) :: .ref a :: rest)) := by
  exact hh_put hx hb hts hown hE hRR hDD hS in_J2 (by rfl : hcl[18]? = _) rfl tyJ2 tyJ2_ok nmJ2 2 (by decide) rfl rfl (hlk_o hts q862) (fun _ h => h) rfl rfl rfl hg hdg kk
theorem hg_J2_23 (hx : p.tables.exec = Jvm.exec) (hb : c.code = cc) (hts : ∀ w ∈ lw_all, w.before args s = true) (hown : s.vm.findClass RJ2 = some m.cls) (hE : hEnv G A s) (hRR : hRep G s S H) (hg : hoIs S a [18, 19] 3) (hdg : decode cc pc = .ok (.getfield 23, 3)) (kk : W p l e R s m args below meth c H locs cells slots Q (F0 m (pc + 3) ls (.int (hfI S a 3) :: rest))) : W p l e R s m args below meth c H locs cells slots Q (F0 m pc ls (.ref a :: rest)) := by
  obtain ⟨ci, hci, hg⟩ := hg
  simp only [List.mem_cons, List.not_mem_nil, or_false] at hci
  rcases hci with rfl | rfl
  · obtain ⟨fs, v, hS, hv⟩ := hg
    have e : hfI S a 3 = v := by simp [hfI, hS, hv]
    rw [e] at kk
    exact hh_get hx hb hts hown hE hRR in_J2 (by rfl : hcl[18]? = _) rfl 3 (by decide) rfl rfl (hlk_o hts q863) (fun _ h => h) hS hv hdg kk
  · obtain ⟨fs, v, hS, hv⟩ := hg
    have e : hfI S a 3 = v := by simp [hfI, hS, hv]
    rw [e] at kk
    exact hh_getK hx hb hown hRR 3 (by decide) rfl rfl q863 hts (fun _ h => h) hS hv hdg kk
theorem hp_J2_23 {v : Int32} (hx : p.tables.exec = Jvm.exec) (hb : c.code = cc) (hts : ∀ w ∈ lw_all, w.before args s = true) (hown : s.vm.findClass RJ2 = some m.cls) (hE : hEnv G A s) (hRR : hRep G s S H) (hDD : hDom A s.heap S_0 S) (hS : va_S A s.heap H locs) (hz : narrow .boolean (.int v) = .int v) (hg : hoP S a 18 3) (hdg : decode cc pc = .ok (.putfield 23, 3)) (kk : ∀ (S1 : hH), S1 = hpF S a 3 (.int v) → ∀ (H : Heap) (locs : List Loc), hRep G s S1 H → hDom A s.heap S_0 S1 → va_S A s.heap H locs → W p l e R s m args below meth c H locs cells slots Q (F0 m (pc + 3) ls rest)) : W p l e R s m args below meth c H locs cells slots Q (F0 m pc ls ((.int v) :: .ref a :: rest)) := by
  exact hh_put hx hb hts hown hE hRR hDD hS in_J2 (by rfl : hcl[18]? = _) rfl tyJ2 tyJ2_ok nmJ2 3 (by decide) rfl rfl (hlk_o hts q863) (fun _ h => h) rfl hz (by rw [← hz]; first | rfl | exact fits_nar_z _ | exact fits_nar_b _) hg hdg kk
theorem hg_J2_1048 (hx : p.tables.exec = Jvm.exec) (hb : c.code = cc) (hts : ∀ w ∈ lw_all, w.before args s = true) (hown : s.vm.findClass RJ2 = some m.cls) (hE : hEnv G A s) (hRR : hRep G s S H) (hg : hoI S a 7 2) (hdg : decode cc pc = .ok (.getfield 1048, 3)) (kk : W p l e R s m args below meth c H locs cells slots Q (F0 m (pc + 3) ls (.int (hfI S a 2) :: rest))) : W p l e R s m args below meth c H locs cells slots Q (F0 m pc ls (.ref a :: rest)) := by
  obtain ⟨fs, v, hS, hv⟩ := hg
  have e : hfI S a 2 = v := by simp [hfI, hS, hv]
  rw [e] at kk
  exact hh_get hx hb hts hown hE hRR in_J1 (by rfl : hcl[7]? = _) rfl 2 (by decide) rfl rfl (hlk_o hts q269) (fun _ h => h) hS hv hdg kk
theorem hg_J20_9 (hx : p.tables.exec = Jvm.exec) (hb : c.code = cc) (hts : ∀ w ∈ lw_all, w.before args s = true) (hown : s.vm.findClass RJ20 = some m.cls) (hE : hEnv G A s) (hRR : hRep G s S H) (hg : hoR S a 16 1) (hdg : decode cc pc = .ok (.getfield 9, 3)) (kk : W p l e R s m args below meth c H locs cells slots Q (F0 m (pc + 3) ls (.ref (hfR S a 1) :: rest))) : W p l e R s m args below meth c H locs cells slots Q (F0 m pc ls (.ref a :: rest)) := by
  obtain ⟨fs, v, hS, hv⟩ := hg
  have e : hfR S a 1 = v := by simp [hfR, hS, hv]
  rw [e] at kk
  exact hh_get hx hb hts hown hE hRR in_J20 (by rfl : hcl[16]? = _) rfl 1 (by decide) rfl rfl (hlk_o hts q490) (fun _ h => h) hS hv hdg kk
theorem hp_J20_9 {v : Value} (hx : p.tables.exec = Jvm.exec) (hb : c.code = cc) (hts : ∀ w ∈ lw_all, w.before args s = true) (hown : s.vm.findClass RJ20 = some m.cls) (hE : hEnv G A s) (hRR : hRep G s S H) (hDD : hDom A s.heap S_0 S) (hS : va_S A s.heap H locs) (hg : hoP S a 16 1) (hdg : decode cc pc = .ok (.putfield 9, 3)) (kk : ∀ (S1 : hH), S1 = hpF S a 1 v → ∀ (H : Heap) (locs : List Loc), hRep G s S1 H → hDom A s.heap S_0 S1 → va_S A s.heap H locs → W p l e R s m args below meth c H locs cells slots Q (F0 m (pc + 3) ls rest)) (hz : v = .null ∨ ∃ b, v = .ref b := by first | exact Or.inl rfl | exact Or.inr ⟨_, rfl⟩ | exact va_rf_or _) : W p l e R s m args below meth c H locs cells slots Q (F0 m pc ls (v :: .ref a :: rest)) := by
  exact hh_put hx hb hts hown hE hRR hDD hS in_J20 (by rfl : hcl[16]? = _) rfl tyJ20 tyJ20_ok nmJ20 1 (by decide) rfl rfl (hlk_o hts q490) (fun _ h => h) rfl (by rcases hz with rfl | ⟨b, rfl⟩ <;> rfl) (by rcases hz with rfl | ⟨b, rfl⟩ <;> rfl) hg hdg kk
theorem hg_J20_48 (hx : p.tables.exec = Jvm.exec) (hb : c.code = cc) (hts : ∀ w ∈ lw_all, w.before args s = true) (hown : s.vm.findClass RJ20 = some m.cls) (hE : hEnv G A s) (hRR : hRep G s S H) (hg : hoI S a 16 2) (hdg : decode cc pc = .ok (.getfield 48, 3)) (kk : W p l e R s m args below meth c H locs cells slots Q (F0 m (pc + 3) ls (.int (hfI S a 2) :: rest))) : W p l e R s m args below meth c H locs cells slots Q (F0 m pc ls (.ref a :: rest)) := by
  obtain ⟨fs, v, hS, hv⟩ := hg
  have e : hfI S a 2 = v := by simp [hfI, hS, hv]
  rw [e] at kk
  exact hh_get hx hb hts hown hE hRR in_J20 (by rfl : hcl[16]? = _) rfl 2 (by decide) rfl rfl (hlk_o hts q493) (fun _ h => h) hS hv hdg kk
theorem hp_J20_48 {v : Int32} (hx : p.tables.exec = Jvm.exec) (hb : c.code = cc) (hts : ∀ w ∈ lw_all, w.before args s = true) (hown : s.vm.findClass RJ20 = some m.cls) (hE : hEnv G A s) (hRR : hRep G s S H) (hDD : hDom A s.heap S_0 S) (hS : va_S A s.heap H locs) (hg : hoP S a 16 2) (hdg : decode cc pc = .ok (.putfield 48, 3)) (kk : ∀ (S1 : hH), S1 = hpF S a 2 (.int v) → ∀ (H : Heap) (locs : List Loc), hRep G s S1 H → hDom A s.heap S_0 S1 → va_S A s.heap H locs → W p l e R s m args below meth c H locs cells slots Q (F0 m (pc + 3) ls rest)) : W p l e R s m args below meth c H locs cells slots Q (F0 m pc ls ((.int v) :: .ref a :: rest)) := by
  exact hh_put hx hb hts hown hE hRR hDD hS in_J20 (by rfl : hcl[16]? = _) rfl tyJ20 tyJ20_ok nmJ20 2 (by decide) rfl rfl (hlk_o hts q493) (fun _ h => h) rfl rfl rfl hg hdg kk
theorem hg_J20_63 (hx : p.tables.exec = Jvm.exec) (hb : c.code = cc) (hts : ∀ w ∈ lw_all, w.before args s = true) (hown : s.vm.findClass RJ20 = some m.cls) (hE : hEnv G A s) (hRR : hRep G s S H) (hg : hoI S a 16 0) (hdg : decode cc pc = .ok (.getfield 63, 3)) (kk : W p l e R s m args below meth c H locs cells slots Q (F0 m (pc + 3) ls (.int (hfI S a 0) :: rest))) : W p l e R s m args below meth c H locs cells slots Q (F0 m pc ls (.ref a :: rest)) := by
  obtain ⟨fs, v, hS, hv⟩ := hg
  have e : hfI S a 0 = v := by simp [hfI, hS, hv]
  rw [e] at kk
  exact hh_get hx hb hts hown hE hRR in_J20 (by rfl : hcl[16]? = _) rfl 0 (by decide) rfl rfl (hlk_o hts q497) (fun x h => u_same (hts _ q496) x h) hS hv hdg kk
theorem hp_J20_63 {v : Int32} (hx : p.tables.exec = Jvm.exec) (hb : c.code = cc) (hts : ∀ w ∈ lw_all, w.before args s = true) (hown : s.vm.findClass RJ20 = some m.cls) (hE : hEnv G A s) (hRR : hRep G s S H) (hDD : hDom A s.heap S_0 S) (hS : va_S A s.heap H locs) (hg : hoP S a 16 0) (hdg : decode cc pc = .ok (.putfield 63, 3)) (kk : ∀ (S1 : hH), S1 = hpF S a 0 (.int v) → ∀ (H : Heap) (locs : List Loc), hRep G s S1 H → hDom A s.heap S_0 S1 → va_S A s.heap H locs → W p l e R s m args below meth c H locs cells slots Q (F0 m (pc + 3) ls rest)) : W p l e R s m args below meth c H locs cells slots Q (F0 m pc ls ((.int v) :: .ref a :: rest)) := by
  exact hh_put hx hb hts hown hE hRR hDD hS in_J20 (by rfl : hcl[16]? = _) rfl tyJ20 tyJ20_ok nmJ20 0 (by decide) rfl rfl (hlk_o hts q497) (fun x h => u_same (hts _ q496) x h) rfl rfl rfl hg hdg kk
theorem hg_J22_1 (hx : p.tables.exec = Jvm.exec) (hb : c.code = cc) (hts : ∀ w ∈ lw_all, w.before args s = true) (hown : s.vm.findClass RJ22 = some m.cls) (hE : hEnv G A s) (hRR : hRep G s S H) (hg : hoR S a 17 3) (hdg : decode cc pc = .ok (.getfield 1, 3)) (kk : W p l e R s m args below meth c H locs cells slots Q (F0 m (pc + 3) ls (.ref (hfR S a 3) :: rest))) : W p l e R s m args below meth c H locs cells slots Q (F0 m pc ls (.ref a :: rest)) := by
  obtain ⟨fs, v, hS, hv⟩ := hg
  have e : hfR S a 3 = v := by simp [hfR, hS, hv]
  rw [e] at kk
  exact hh_get hx hb hts hown hE hRR in_J22 (by rfl : hcl[17]? = _) rfl 3 (by decide) rfl rfl (hlk_o hts q1077) (fun _ h => h) hS hv hdg kk
theorem hp_J22_1 {v : Value} (hx : p.tables.exec = Jvm.exec) (hb : c.code = cc) (hts : ∀ w ∈ lw_all, w.before args s = true) (hown : s.vm.findClass RJ22 = some m.cls) (hE : hEnv G A s) (hRR : hRep G s S H) (hDD : hDom A s.heap S_0 S) (hS : va_S A s.heap H locs) (hmn : meth.name = "<init>") (hg : hoP S a 17 3) (hdg : decode cc pc = .ok (.putfield 1, 3)) (kk : ∀ (S1 : hH), S1 = hpF S a 3 v → ∀ (H : Heap) (locs : List Loc), hRep G s S1 H → hDom A s.heap S_0 S1 → va_S A s.heap H locs → W p l e R s m args below meth c H locs cells slots Q (F0 m (pc + 3) ls rest)) (hz : v = .null ∨ ∃ b, v = .ref b := by first | exact Or.inl rfl | exact Or.inr ⟨_, rfl⟩ | exact va_rf_or _) : W p l e R s m args below meth c H locs cells slots Q (F0 m pc ls (v :: .ref a :: rest)) := by
  exact hh_putF hx hb hts hown hE hRR hDD hS in_J22 (by rfl : hcl[17]? = _) rfl tyJ22 tyJ22_ok nmJ22 3 (by decide) rfl rfl (hts _ q1077) (fun _ h => h) rfl hmn rfl (by rcases hz with rfl | ⟨b, rfl⟩ <;> rfl) (by rcases hz with rfl | ⟨b, rfl⟩ <;> rfl) hg hdg kk
theorem hp_J22_13 {v : Int32} (hx : p.tables.exec = Jvm.exec) (hb : c.code = cc) (hts : ∀ w ∈ lw_all, w.before args s = true) (hown : s.vm.findClass RJ22 = some m.cls) (hE : hEnv G A s) (hRR : hRep G s S H) (hDD : hDom A s.heap S_0 S) (hS : va_S A s.heap H locs) (hg : hoP S a 17 1) (hdg : decode cc pc = .ok (.putfield 13, 3)) (kk : ∀ (S1 : hH), S1 = hpF S a 1 (.int v) → ∀ (H : Heap) (locs : List Loc), hRep G s S1 H → hDom A s.heap S_0 S1 → va_S A s.heap H locs → W p l e R s m args below meth c H locs cells slots Q (F0 m (pc + 3) ls rest)) : W p l e R s m args below meth c H locs cells slots Q (F0 m pc ls ((.int v) :: .ref a :: rest)) := by
  exact hh_put hx hb hts hown hE hRR hDD hS in_J22 (by rfl : hcl[17]? = _) rfl tyJ22 tyJ22_ok nmJ22 1 (by decide) rfl rfl (hlk_o hts q1075) (fun _ h => h) rfl rfl rfl hg hdg kk
theorem hg_J22_17 (hx : p.tables.exec = Jvm.exec) (hb : c.code = cc) (hts : ∀ w ∈ lw_all, w.before args s = true) (hown : s.vm.findClass RJ22 = some m.cls) (hE : hEnv G A s) (hRR : hRep G s S H) (hg : hoI S a 16 0) (hdg : decode cc pc = .ok (.getfield 17, 3)) (kk : W p l e R s m args below meth c H locs cells slots Q (F0 m (pc + 3) ls (.int (hfI S a 0) :: rest))) : W p l e R s m args below meth c H locs cells slots Q (F0 m pc ls (.ref a :: rest)) := by
  obtain ⟨fs, v, hS, hv⟩ := hg
  have e : hfI S a 0 = v := by simp [hfI, hS, hv]
  rw [e] at kk
  exact hh_get hx hb hts hown hE hRR in_J20 (by rfl : hcl[16]? = _) rfl 0 (by decide) rfl rfl (hlk_o hts q495) (fun x h => u_same (hts _ q496) x h) hS hv hdg kk
theorem hg_J22_22 (hx : p.tables.exec = Jvm.exec) (hb : c.code = cc) (hts : ∀ w ∈ lw_all, w.before args s = true) (hown : s.vm.findClass RJ22 = some m.cls) (hE : hEnv G A s) (hRR : hRep G s S H) (hg : hoI S a 17 2) (hdg : decode cc pc = .ok (.getfield 22, 3)) (kk : W p l e R s m args below meth c H locs cells slots Q (F0 m (pc + 3) ls (.int (hfI S a 2) :: rest))) : W p l e R s m args below meth c H locs cells slots Q (F0 m pc ls (.ref a :: rest)) := by
  obtain ⟨fs, v, hS, hv⟩ := hg
  have e : hfI S a 2 = v := by simp [hfI, hS, hv]
  rw [e] at kk
  exact hh_get hx hb hts hown hE hRR in_J22 (by rfl : hcl[17]? = _) rfl 2 (by decide) rfl rfl (hlk_o hts q1076) (fun _ h => h) hS hv hdg kk
theorem hp_J22_22 {v : Int32} (hx : p.tables.exec = Jvm.exec) (hb : c.code = cc) (hts : ∀ w ∈ lw_all, w.before args s = true) (hown : s.vm.findClass RJ22 = some m.cls) (hE : hEnv G A s) (hRR : hRep G s S H) (hDD : hDom A s.heap S_0 S) (hS : va_S A s.heap H locs) (hg : hoP S a 17 2) (hdg : decode cc pc = .ok (.putfield 22, 3)) (kk : ∀ (S1 : hH), S1 = hpF S a 2 (.int v) → ∀ (H : Heap) (locs : List Loc), hRep G s S1 H → hDom A s.heap S_0 S1 → va_S A s.heap H locs → W p l e R s m args below meth c H locs cells slots Q (F0 m (pc + 3) ls rest)) : W p l e R s m args below meth c H locs cells slots Q (F0 m pc ls ((.int v) :: .ref a :: rest)) := by
  exact hh_put hx hb hts hown hE hRR hDD hS in_J22 (by rfl : hcl[17]? = _) rfl tyJ22 tyJ22_ok nmJ22 2 (by decide) rfl rfl (hlk_o hts q1076) (fun _ h => h) rfl rfl rfl hg hdg kk
theorem hg_J22_25 (hx : p.tables.exec = Jvm.exec) (hb : c.code = cc) (hts : ∀ w ∈ lw_all, w.before args s = true) (hown : s.vm.findClass RJ22 = some m.cls) (hE : hEnv G A s) (hRR : hRep G s S H) (hg : hoI S a 17 0) (hdg : decode cc pc = .ok (.getfield 25, 3)) (kk : W p l e R s m args below meth c H locs cells slots Q (F0 m (pc + 3) ls (.int (hfI S a 0) :: rest))) : W p l e R s m args below meth c H locs cells slots Q (F0 m pc ls (.ref a :: rest)) := by
  obtain ⟨fs, v, hS, hv⟩ := hg
  have e : hfI S a 0 = v := by simp [hfI, hS, hv]
  rw [e] at kk
  exact hh_get hx hb hts hown hE hRR in_J22 (by rfl : hcl[17]? = _) rfl 0 (by decide) rfl rfl (hlk_o hts q1074) (fun _ h => h) hS hv hdg kk
theorem hp_J22_25 {v : Int32} (hx : p.tables.exec = Jvm.exec) (hb : c.code = cc) (hts : ∀ w ∈ lw_all, w.before args s = true) (hown : s.vm.findClass RJ22 = some m.cls) (hE : hEnv G A s) (hRR : hRep G s S H) (hDD : hDom A s.heap S_0 S) (hS : va_S A s.heap H locs) (hg : hoP S a 17 0) (hdg : decode cc pc = .ok (.putfield 25, 3)) (kk : ∀ (S1 : hH), S1 = hpF S a 0 (.int v) → ∀ (H : Heap) (locs : List Loc), hRep G s S1 H → hDom A s.heap S_0 S1 → va_S A s.heap H locs → W p l e R s m args below meth c H locs cells slots Q (F0 m (pc + 3) ls rest)) : W p l e R s m args below meth c H locs cells slots Q (F0 m pc ls ((.int v) :: .ref a :: rest)) := by
  exact hh_put hx hb hts hown hE hRR hDD hS in_J22 (by rfl : hcl[17]? = _) rfl tyJ22 tyJ22_ok nmJ22 0 (by decide) rfl rfl (hlk_o hts q1074) (fun _ h => h) rfl rfl rfl hg hdg kk
theorem hg_J22_28 (hx : p.tables.exec = Jvm.exec) (hb : c.code = cc) (hts : ∀ w ∈ lw_all, w.before args s = true) (hown : s.vm.findClass RJ22 = some m.cls) (hE : hEnv G A s) (hRR : hRep G s S H) (hg : hoI S a 16 2) (hdg : decode cc pc = .ok (.getfield 28, 3)) (kk : W p l e R s m args below meth c H locs cells slots Q (F0 m (pc + 3) ls (.int (hfI S a 2) :: rest))) : W p l e R s m args below meth c H locs cells slots Q (F0 m pc ls (.ref a :: rest)) := by
  obtain ⟨fs, v, hS, hv⟩ := hg
  have e : hfI S a 2 = v := by simp [hfI, hS, hv]
  rw [e] at kk
  exact hh_get hx hb hts hown hE hRR in_J20 (by rfl : hcl[16]? = _) rfl 2 (by decide) rfl rfl (hlk_n hE (nw_of q492 rfl)) (fun _ h => h) hS hv hdg kk
theorem hg_J22_37 (hx : p.tables.exec = Jvm.exec) (hb : c.code = cc) (hts : ∀ w ∈ lw_all, w.before args s = true) (hown : s.vm.findClass RJ22 = some m.cls) (hE : hEnv G A s) (hRR : hRep G s S H) (hg : hoR S a 16 1) (hdg : decode cc pc = .ok (.getfield 37, 3)) (kk : W p l e R s m args below meth c H locs cells slots Q (F0 m (pc + 3) ls (.ref (hfR S a 1) :: rest))) : W p l e R s m args below meth c H locs cells slots Q (F0 m pc ls (.ref a :: rest)) := by
  obtain ⟨fs, v, hS, hv⟩ := hg
  have e : hfR S a 1 = v := by simp [hfR, hS, hv]
  rw [e] at kk
  exact hh_get hx hb hts hown hE hRR in_J20 (by rfl : hcl[16]? = _) rfl 1 (by decide) rfl rfl (hlk_o hts q491) (fun _ h => h) hS hv hdg kk
theorem hp_J4_7 {v : Value} (hx : p.tables.exec = Jvm.exec) (hb : c.code = cc) (hts : ∀ w ∈ lw_all, w.before args s = true) (hown : s.vm.findClass RJ4 = some m.cls) (hE : hEnv G A s) (hRR : hRep G s S H) (hDD : hDom A s.heap S_0 S) (hS : va_S A s.heap H locs) (hg : hoP S a 4 0) (hdg : decode cc pc = .ok (.putfield 7, 3)) (kk : ∀ (S1 : hH), S1 = hpF S a 0 v → ∀ (H : Heap) (locs : List Loc), hRep G s S1 H → hDom A s.heap S_0 S1 → va_S A s.heap H locs → W p l e R s m args below meth c H locs cells slots Q (F0 m (pc + 3) ls rest)) (hz : v = .null ∨ ∃ b, v = .ref b := by first | exact Or.inl rfl | exact Or.inr ⟨_, rfl⟩ | exact va_rf_or _) : W p l e R s m args below meth c H locs cells slots Q (F0 m pc ls (v :: .ref a :: rest)) := by
  exact hh_put hx hb hts hown hE hRR hDD hS in_X4 (by rfl : hcl[4]? = _) rfl tyX4 tyX4_ok nmX4 0 (by decide) rfl rfl (hlk_o hts q251) (fun _ h => h) rfl (by rcases hz with rfl | ⟨b, rfl⟩ <;> rfl) (by rcases hz with rfl | ⟨b, rfl⟩ <;> rfl) hg hdg kk
theorem hp_J4_17 {v : Value} (hx : p.tables.exec = Jvm.exec) (hb : c.code = cc) (hts : ∀ w ∈ lw_all, w.before args s = true) (hown : s.vm.findClass RJ4 = some m.cls) (hE : hEnv G A s) (hRR : hRep G s S H) (hDD : hDom A s.heap S_0 S) (hS : va_S A s.heap H locs) (hg : hoP S a 4 1) (hdg : decode cc pc = .ok (.putfield 17, 3)) (kk : ∀ (S1 : hH), S1 = hpF S a 1 v → ∀ (H : Heap) (locs : List Loc), hRep G s S1 H → hDom A s.heap S_0 S1 → va_S A s.heap H locs → W p l e R s m args below meth c H locs cells slots Q (F0 m (pc + 3) ls rest)) (hz : v = .null ∨ ∃ b, v = .ref b := by first | exact Or.inl rfl | exact Or.inr ⟨_, rfl⟩ | exact va_rf_or _) : W p l e R s m args below meth c H locs cells slots Q (F0 m pc ls (v :: .ref a :: rest)) := by
  exact hh_put hx hb hts hown hE hRR hDD hS in_X4 (by rfl : hcl[4]? = _) rfl tyX4 tyX4_ok nmX4 1 (by decide) rfl rfl (hlk_o hts q252) (fun _ h => h) rfl (by rcases hz with rfl | ⟨b, rfl⟩ <;> rfl) (by rcases hz with rfl | ⟨b, rfl⟩ <;> rfl) hg hdg kk
theorem hp_J4_24 {v : Value} (hx : p.tables.exec = Jvm.exec) (hb : c.code = cc) (hts : ∀ w ∈ lw_all, w.before args s = true) (hown : s.vm.findClass RJ4 = some m.cls) (hE : hEnv G A s) (hRR : hRep G s S H) (hDD : hDom A s.heap S_0 S) (hS : va_S A s.heap H locs) (hg : hoP S a 4 2) (hdg : decode cc pc = .ok (.putfield 24, 3)) (kk : ∀ (S1 : hH), S1 = hpF S a 2 v → ∀ (H : Heap) (locs : List Loc), hRep G s S1 H → hDom A s.heap S_0 S1 → va_S A s.heap H locs → W p l e R s m args below meth c H locs cells slots Q (F0 m (pc + 3) ls rest)) (hz : v = .null ∨ ∃ b, v = .ref b := by first | exact Or.inl rfl | exact Or.inr ⟨_, rfl⟩ | exact va_rf_or _) : W p l e R s m args below meth c H locs cells slots Q (F0 m pc ls (v :: .ref a :: rest)) := by
  exact hh_put hx hb hts hown hE hRR hDD hS in_X4 (by rfl : hcl[4]? = _) rfl tyX4 tyX4_ok nmX4 2 (by decide) rfl rfl (hlk_o hts q253) (fun _ h => h) rfl (by rcases hz with rfl | ⟨b, rfl⟩ <;> rfl) (by rcases hz with rfl | ⟨b, rfl⟩ <;> rfl) hg hdg kk
theorem hp_J4_31 {v : Value} (hx : p.tables.exec = Jvm.exec) (hb : c.code = cc) (hts : ∀ w ∈ lw_all, w.before args s = true) (hown : s.vm.findClass RJ4 = some m.cls) (hE : hEnv G A s) (hRR : hRep G s S H) (hDD : hDom A s.heap S_0 S) (hS : va_S A s.heap H locs) (hg : hoP S a 4 3) (hdg : decode cc pc = .ok (.putfield 31, 3)) (kk : ∀ (S1 : hH), S1 = hpF S a 3 v → ∀ (H : Heap) (locs : List Loc), hRep G s S1 H → hDom A s.heap S_0 S1 → va_S A s.heap H locs → W p l e R s m args below meth c H locs cells slots Q (F0 m (pc + 3) ls rest)) (hz : v = .null ∨ ∃ b, v = .ref b := by first | exact Or.inl rfl | exact Or.inr ⟨_, rfl⟩ | exact va_rf_or _) : W p l e R s m args below meth c H locs cells slots Q (F0 m pc ls (v :: .ref a :: rest)) := by
  exact hh_put hx hb hts hown hE hRR hDD hS in_X4 (by rfl : hcl[4]? = _) rfl tyX4 tyX4_ok nmX4 3 (by decide) rfl rfl (hlk_o hts q250) (fun _ h => h) rfl (by rcases hz with rfl | ⟨b, rfl⟩ <;> rfl) (by rcases hz with rfl | ⟨b, rfl⟩ <;> rfl) hg hdg kk
theorem hg_X0_9 (hx : p.tables.exec = Jvm.exec) (hb : c.code = cc) (hts : ∀ w ∈ lw_all, w.before args s = true) (hown : s.vm.findClass RX0 = some m.cls) (hE : hEnv G A s) (hRR : hRep G s S H) (hg : hoI S a 0 0) (hdg : decode cc pc = .ok (.getfield 9, 3)) (kk : W p l e R s m args below meth c H locs cells slots Q (F0 m (pc + 3) ls (.int (hfI S a 0) :: rest))) : W p l e R s m args below meth c H locs cells slots Q (F0 m pc ls (.ref a :: rest)) := by
  obtain ⟨fs, v, hS, hv⟩ := hg
  have e : hfI S a 0 = v := by simp [hfI, hS, hv]
  rw [e] at kk
  exact hh_get hx hb hts hown hE hRR in_X0 (by rfl : hcl[0]? = _) rfl 0 (by decide) rfl rfl (hlk_o hts q292) (fun _ h => h) hS hv hdg kk
theorem hp_X0_9 {v : Int32} (hx : p.tables.exec = Jvm.exec) (hb : c.code = cc) (hts : ∀ w ∈ lw_all, w.before args s = true) (hown : s.vm.findClass RX0 = some m.cls) (hE : hEnv G A s) (hRR : hRep G s S H) (hDD : hDom A s.heap S_0 S) (hS : va_S A s.heap H locs) (hg : hoP S a 0 0) (hdg : decode cc pc = .ok (.putfield 9, 3)) (kk : ∀ (S1 : hH), S1 = hpF S a 0 (.int v) → ∀ (H : Heap) (locs : List Loc), hRep G s S1 H → hDom A s.heap S_0 S1 → va_S A s.heap H locs → W p l e R s m args below meth c H locs cells slots Q (F0 m (pc + 3) ls rest)) : W p l e R s m args below meth c H locs cells slots Q (F0 m pc ls ((.int v) :: .ref a :: rest)) := by
  exact hh_put hx hb hts hown hE hRR hDD hS in_X0 (by rfl : hcl[0]? = _) rfl tyX0 tyX0_ok nmX0 0 (by decide) rfl rfl (hlk_o hts q292) (fun _ h => h) rfl rfl rfl hg hdg kk
theorem hg_X0_21 (hx : p.tables.exec = Jvm.exec) (hb : c.code = cc) (hts : ∀ w ∈ lw_all, w.before args s = true) (hown : s.vm.findClass RX0 = some m.cls) (hE : hEnv G A s) (hRR : hRep G s S H) (hg : hoJ S a 0 1) (hdg : decode cc pc = .ok (.getfield 21, 3)) (kk : W p l e R s m args below meth c H locs cells slots Q (F0 m (pc + 3) ls (.long (hfJ S a 1) :: rest))) : W p l e R s m args below meth c H locs cells slots Q (F0 m pc ls (.ref a :: rest)) := by
  obtain ⟨fs, v, hS, hv⟩ := hg
  have e : hfJ S a 1 = v := by simp [hfJ, hS, hv]
  rw [e] at kk
  exact hh_get hx hb hts hown hE hRR in_X0 (by rfl : hcl[0]? = _) rfl 1 (by decide) rfl rfl (hlk_o hts q294) (fun _ h => h) hS hv hdg kk
theorem hp_X0_21 {v : Int64} (hx : p.tables.exec = Jvm.exec) (hb : c.code = cc) (hts : ∀ w ∈ lw_all, w.before args s = true) (hown : s.vm.findClass RX0 = some m.cls) (hE : hEnv G A s) (hRR : hRep G s S H) (hDD : hDom A s.heap S_0 S) (hS : va_S A s.heap H locs) (hg : hoP S a 0 1) (hdg : decode cc pc = .ok (.putfield 21, 3)) (kk : ∀ (S1 : hH), S1 = hpF S a 1 (.long v) → ∀ (H : Heap) (locs : List Loc), hRep G s S1 H → hDom A s.heap S_0 S1 → va_S A s.heap H locs → W p l e R s m args below meth c H locs cells slots Q (F0 m (pc + 3) ls rest)) : W p l e R s m args below meth c H locs cells slots Q (F0 m pc ls ((.long v) :: .ref a :: rest)) := by
  exact hh_put hx hb hts hown hE hRR hDD hS in_X0 (by rfl : hcl[0]? = _) rfl tyX0 tyX0_ok nmX0 1 (by decide) rfl rfl (hlk_o hts q294) (fun _ h => h) rfl rfl rfl hg hdg kk
theorem hg_X0_25 (hx : p.tables.exec = Jvm.exec) (hb : c.code = cc) (hts : ∀ w ∈ lw_all, w.before args s = true) (hown : s.vm.findClass RX0 = some m.cls) (hE : hEnv G A s) (hRR : hRep G s S H) (hg : hoR S a 0 2) (hdg : decode cc pc = .ok (.getfield 25, 3)) (kk : W p l e R s m args below meth c H locs cells slots Q (F0 m (pc + 3) ls (.ref (hfR S a 2) :: rest))) : W p l e R s m args below meth c H locs cells slots Q (F0 m pc ls (.ref a :: rest)) := by
  obtain ⟨fs, v, hS, hv⟩ := hg
  have e : hfR S a 2 = v := by simp [hfR, hS, hv]
  rw [e] at kk
  exact hh_get hx hb hts hown hE hRR in_X0 (by rfl : hcl[0]? = _) rfl 2 (by decide) rfl rfl (hlk_o hts q296) (fun _ h => h) hS hv hdg kk
theorem hg_X0_29 (hx : p.tables.exec = Jvm.exec) (hb : c.code = cc) (hts : ∀ w ∈ lw_all, w.before args s = true) (hown : s.vm.findClass RX0 = some m.cls) (hE : hEnv G A s) (hRR : hRep G s S H) (hg : hoR S a 0 3) (hdg : decode cc pc = .ok (.getfield 29, 3)) (kk : W p l e R s m args below meth c H locs cells slots Q (F0 m (pc + 3) ls (.ref (hfR S a 3) :: rest))) : W p l e R s m args below meth c H locs cells slots Q (F0 m pc ls (.ref a :: rest)) := by
  obtain ⟨fs, v, hS, hv⟩ := hg
  have e : hfR S a 3 = v := by simp [hfR, hS, hv]
  rw [e] at kk
  exact hh_get hx hb hts hown hE hRR in_X0 (by rfl : hcl[0]? = _) rfl 3 (by decide) rfl rfl (hlk_o hts q297) (fun _ h => h) hS hv hdg kk
theorem hg_X0_34 (hx : p.tables.exec = Jvm.exec) (hb : c.code = cc) (hts : ∀ w ∈ lw_all, w.before args s = true) (hown : s.vm.findClass RX0 = some m.cls) (hE : hEnv G A s) (hRR : hRep G s S H) (hg : hoR S a 0 4) (hdg : decode cc pc = .ok (.getfield 34, 3)) (kk : W p l e R s m args below meth c H locs cells slots Q (F0 m (pc + 3) ls (.ref (hfR S a 4) :: rest))) : W p l e R s m args below meth c H locs cells slots Q (F0 m pc ls (.ref a :: rest)) := by
  obtain ⟨fs, v, hS, hv⟩ := hg
  have e : hfR S a 4 = v := by simp [hfR, hS, hv]
  rw [e] at kk
  exact hh_get hx hb hts hown hE hRR in_X0 (by rfl : hcl[0]? = _) rfl 4 (by decide) rfl rfl (hlk_o hts q298) (fun _ h => h) hS hv hdg kk
theorem hg_X0_37 (hx : p.tables.exec = Jvm.exec) (hb : c.code = cc) (hts : ∀ w ∈ lw_all, w.before args s = true) (hown : s.vm.findClass RX0 = some m.cls) (hE : hEnv G A s) (hRR : hRep G s S H) (hg : hoR S a 0 5) (hdg : decode cc pc = .ok (.getfield 37, 3)) (kk : W p l e R s m args below meth c H locs cells slots Q (F0 m (pc + 3) ls (.ref (hfR S a 5) :: rest))) : W p l e R s m args below meth c H locs cells slots Q (F0 m pc ls (.ref a :: rest)) := by
  obtain ⟨fs, v, hS, hv⟩ := hg
  have e : hfR S a 5 = v := by simp [hfR, hS, hv]
  rw [e] at kk
  exact hh_get hx hb hts hown hE hRR in_X0 (by rfl : hcl[0]? = _) rfl 5 (by decide) rfl rfl (hlk_o hts q299) (fun _ h => h) hS hv hdg kk
theorem hg_X0_41 (hx : p.tables.exec = Jvm.exec) (hb : c.code = cc) (hts : ∀ w ∈ lw_all, w.before args s = true) (hown : s.vm.findClass RX0 = some m.cls) (hE : hEnv G A s) (hRR : hRep G s S H) (hg : hoR S a 0 6) (hdg : decode cc pc = .ok (.getfield 41, 3)) (kk : W p l e R s m args below meth c H locs cells slots Q (F0 m (pc + 3) ls (.ref (hfR S a 6) :: rest))) : W p l e R s m args below meth c H locs cells slots Q (F0 m pc ls (.ref a :: rest)) := by
  obtain ⟨fs, v, hS, hv⟩ := hg
  have e : hfR S a 6 = v := by simp [hfR, hS, hv]
  rw [e] at kk
  exact hh_get hx hb hts hown hE hRR in_X0 (by rfl : hcl[0]? = _) rfl 6 (by decide) rfl rfl (hlk_o hts q300) (fun _ h => h) hS hv hdg kk
theorem hg_X0_44 (hx : p.tables.exec = Jvm.exec) (hb : c.code = cc) (hts : ∀ w ∈ lw_all, w.before args s = true) (hown : s.vm.findClass RX0 = some m.cls) (hE : hEnv G A s) (hRR : hRep G s S H) (hg : hoR S a 0 7) (hdg : decode cc pc = .ok (.getfield 44, 3)) (kk : W p l e R s m args below meth c H locs cells slots Q (F0 m (pc + 3) ls (.ref (hfR S a 7) :: rest))) : W p l e R s m args below meth c H locs cells slots Q (F0 m pc ls (.ref a :: rest)) := by
  obtain ⟨fs, v, hS, hv⟩ := hg
  have e : hfR S a 7 = v := by simp [hfR, hS, hv]
  rw [e] at kk
  exact hh_get hx hb hts hown hE hRR in_X0 (by rfl : hcl[0]? = _) rfl 7 (by decide) rfl rfl (hlk_o hts q301) (fun _ h => h) hS hv hdg kk
theorem hg_X0_49 (hx : p.tables.exec = Jvm.exec) (hb : c.code = cc) (hts : ∀ w ∈ lw_all, w.before args s = true) (hown : s.vm.findClass RX0 = some m.cls) (hE : hEnv G A s) (hRR : hRep G s S H) (hg : hoR S a 0 8) (hdg : decode cc pc = .ok (.getfield 49, 3)) (kk : W p l e R s m args below meth c H locs cells slots Q (F0 m (pc + 3) ls (.ref (hfR S a 8) :: rest))) : W p l e R s m args below meth c H locs cells slots Q (F0 m pc ls (.ref a :: rest)) := by
  obtain ⟨fs, v, hS, hv⟩ := hg
  have e : hfR S a 8 = v := by simp [hfR, hS, hv]
  rw [e] at kk
  exact hh_get hx hb hts hown hE hRR in_X0 (by rfl : hcl[0]? = _) rfl 8 (by decide) rfl rfl (hlk_o hts q302) (fun _ h => h) hS hv hdg kk
theorem hg_X0_57 (hx : p.tables.exec = Jvm.exec) (hb : c.code = cc) (hts : ∀ w ∈ lw_all, w.before args s = true) (hown : s.vm.findClass RX0 = some m.cls) (hE : hEnv G A s) (hRR : hRep G s S H) (hg : hoR S a 0 9) (hdg : decode cc pc = .ok (.getfield 57, 3)) (kk : W p l e R s m args below meth c H locs cells slots Q (F0 m (pc + 3) ls (.ref (hfR S a 9) :: rest))) : W p l e R s m args below meth c H locs cells slots Q (F0 m pc ls (.ref a :: rest)) := by
  obtain ⟨fs, v, hS, hv⟩ := hg
  have e : hfR S a 9 = v := by simp [hfR, hS, hv]
  rw [e] at kk
  exact hh_get hx hb hts hown hE hRR in_X0 (by rfl : hcl[0]? = _) rfl 9 (by decide) rfl rfl (hlk_o hts q303) (fun _ h => h) hS hv hdg kk
theorem hg_X0_64 (hx : p.tables.exec = Jvm.exec) (hb : c.code = cc) (hts : ∀ w ∈ lw_all, w.before args s = true) (hown : s.vm.findClass RX0 = some m.cls) (hE : hEnv G A s) (hRR : hRep G s S H) (hg : hoR S a 0 11) (hdg : decode cc pc = .ok (.getfield 64, 3)) (kk : W p l e R s m args below meth c H locs cells slots Q (F0 m (pc + 3) ls (.ref (hfR S a 11) :: rest))) : W p l e R s m args below meth c H locs cells slots Q (F0 m pc ls (.ref a :: rest)) := by
  obtain ⟨fs, v, hS, hv⟩ := hg
  have e : hfR S a 11 = v := by simp [hfR, hS, hv]
  rw [e] at kk
  exact hh_get hx hb hts hown hE hRR in_X0 (by rfl : hcl[0]? = _) rfl 11 (by decide) rfl rfl (hlk_o hts q305) (fun _ h => h) hS hv hdg kk
theorem hg_X0_72 (hx : p.tables.exec = Jvm.exec) (hb : c.code = cc) (hts : ∀ w ∈ lw_all, w.before args s = true) (hown : s.vm.findClass RX0 = some m.cls) (hE : hEnv G A s) (hRR : hRep G s S H) (hg : hoN S a 0 10) (hdg : decode cc pc = .ok (.getfield 72, 3)) (kk : W p l e R s m args below meth c H locs cells slots Q (F0 m (pc + 3) ls (va_rf (hfN S a 10) :: rest))) : W p l e R s m args below meth c H locs cells slots Q (F0 m pc ls (.ref a :: rest)) := by
  obtain ⟨fs, v, hS, hv⟩ := hg
  have e : hfN S a 10 = v := by cases v <;> simp [hfN, hS, hv, va_rf]
  rw [e] at kk
  exact hh_get hx hb hts hown hE hRR in_X0 (by rfl : hcl[0]? = _) rfl 10 (by decide) rfl rfl (hlk_o hts q304) (fun _ h => h) hS hv hdg kk
theorem hp_X0_72 {v : Value} (hx : p.tables.exec = Jvm.exec) (hb : c.code = cc) (hts : ∀ w ∈ lw_all, w.before args s = true) (hown : s.vm.findClass RX0 = some m.cls) (hE : hEnv G A s) (hRR : hRep G s S H) (hDD : hDom A s.heap S_0 S) (hS : va_S A s.heap H locs) (hg : hoP S a 0 10) (hdg : decode cc pc = .ok (.putfield 72, 3)) (kk : ∀ (S1 : hH), S1 = hpF S a 10 v → ∀ (H : Heap) (locs : List Loc), hRep G s S1 H → hDom A s.heap S_0 S1 → va_S A s.heap H locs → W p l e R s m args below meth c H locs cells slots Q (F0 m (pc + 3) ls rest)) (hz : v = .null ∨ ∃ b, v = .ref b := by first | exact Or.inl rfl | exact Or.inr ⟨_, rfl⟩ | exact va_rf_or _) : W p l e R s m args below meth c H locs cells slots Q (F0 m pc ls (v :: .ref a :: rest)) := by
  exact hh_put hx hb hts hown hE hRR hDD hS in_X0 (by rfl : hcl[0]? = _) rfl tyX0 tyX0_ok nmX0 10 (by decide) rfl rfl (hlk_o hts q304) (fun _ h => h) rfl (by rcases hz with rfl | ⟨b, rfl⟩ <;> rfl) (by rcases hz with rfl | ⟨b, rfl⟩ <;> rfl) hg hdg kk
theorem hg_X0_127 (hx : p.tables.exec = Jvm.exec) (hb : c.code = cc) (hts : ∀ w ∈ lw_all, w.before args s = true) (hown : s.vm.findClass RX0 = some m.cls) (hE : hEnv G A s) (hRR : hRep G s S H) (hg : hoI S a 5 2) (hdg : decode cc pc = .ok (.getfield 127, 3)) (kk : W p l e R s m args below meth c H locs cells slots Q (F0 m (pc + 3) ls (.int (hfI S a 2) :: rest))) : W p l e R s m args below meth c H locs cells slots Q (F0 m pc ls (.ref a :: rest)) := by
  obtain ⟨fs, v, hS, hv⟩ := hg
  have e : hfI S a 2 = v := by simp [hfI, hS, hv]
  rw [e] at kk
  exact hh_get hx hb hts hown hE hRR in_X5 (by rfl : hcl[5]? = _) rfl 2 (by decide) rfl rfl (hlk_n hE (nw_of q533 rfl)) (fun _ h => h) hS hv hdg kk
theorem hp_X0_127 {v : Int32} (hx : p.tables.exec = Jvm.exec) (hb : c.code = cc) (hts : ∀ w ∈ lw_all, w.before args s = true) (hown : s.vm.findClass RX0 = some m.cls) (hE : hEnv G A s) (hRR : hRep G s S H) (hDD : hDom A s.heap S_0 S) (hS : va_S A s.heap H locs) (hg : hoP S a 5 2) (hdg : decode cc pc = .ok (.putfield 127, 3)) (kk : ∀ (S1 : hH), S1 = hpF S a 2 (.int v) → ∀ (H : Heap) (locs : List Loc), hRep G s S1 H → hDom A s.heap S_0 S1 → va_S A s.heap H locs → W p l e R s m args below meth c H locs cells slots Q (F0 m (pc + 3) ls rest)) : W p l e R s m args below meth c H locs cells slots Q (F0 m pc ls ((.int v) :: .ref a :: rest)) := by
  exact hh_put hx hb hts hown hE hRR hDD hS in_X5 (by rfl : hcl[5]? = _) rfl tyX5 tyX5_ok nmX5 2 (by decide) rfl rfl (hlk_n hE (nw_of q533 rfl)) (fun _ h => h) rfl rfl rfl hg hdg kk
theorem hg_X0_207 (hx : p.tables.exec = Jvm.exec) (hb : c.code = cc) (hts : ∀ w ∈ lw_all, w.before args s = true) (hown : s.vm.findClass RX0 = some m.cls) (hE : hEnv G A s) (hRR : hRep G s S H) (hg : hoI S a 5 1) (hdg : decode cc pc = .ok (.getfield 207, 3)) (kk : W p l e R s m args below meth c H locs cells slots Q (F0 m (pc + 3) ls (.int (hfI S a 1) :: rest))) : W p l e R s m args below meth c H locs cells slots Q (F0 m pc ls (.ref a :: rest)) := by
  obtain ⟨fs, v, hS, hv⟩ := hg
  have e : hfI S a 1 = v := by simp [hfI, hS, hv]
  rw [e] at kk
  exact hh_get hx hb hts hown hE hRR in_X5 (by rfl : hcl[5]? = _) rfl 1 (by decide) rfl rfl (hlk_n hE (nw_of q531 rfl)) (fun _ h => h) hS hv hdg kk
theorem hg_X0_210 (hx : p.tables.exec = Jvm.exec) (hb : c.code = cc) (hts : ∀ w ∈ lw_all, w.before args s = true) (hown : s.vm.findClass RX0 = some m.cls) (hE : hEnv G A s) (hRR : hRep G s S H) (hg : hoR S a 5 0) (hdg : decode cc pc = .ok (.getfield 210, 3)) (kk : W p l e R s m args below meth c H locs cells slots Q (F0 m (pc + 3) ls (.ref (hfR S a 0) :: rest))) : W p l e R s m args below meth c H locs cells slots Q (F0 m pc ls (.ref a :: rest)) := by
  obtain ⟨fs, v, hS, hv⟩ := hg
  have e : hfR S a 0 = v := by simp [hfR, hS, hv]
  rw [e] at kk
  exact hh_get hx hb hts hown hE hRR in_X5 (by rfl : hcl[5]? = _) rfl 0 (by decide) rfl rfl (hlk_n hE (nw_of q528 rfl)) (fun _ h => h) hS hv hdg kk
theorem hg_X0_243 (hx : p.tables.exec = Jvm.exec) (hb : c.code = cc) (hts : ∀ w ∈ lw_all, w.before args s = true) (hown : s.vm.findClass RX0 = some m.cls) (hE : hEnv G A s) (hRR : hRep G s S H) (hg : hoI S a 4 6) (hdg : decode cc pc = .ok (.getfield 243, 3)) (kk : W p l e R s m args below meth c H locs cells slots Q (F0 m (pc + 3) ls (.int (hfI S a 6) :: rest))) : W p l e R s m args below meth c H locs cells slots Q (F0 m pc ls (.ref a :: rest)) := by
  obtain ⟨fs, v, hS, hv⟩ := hg
  have e : hfI S a 6 = v := by simp [hfI, hS, hv]
  rw [e] at kk
  exact hh_get hx hb hts hown hE hRR in_X4 (by rfl : hcl[4]? = _) rfl 6 (by decide) rfl rfl (hlk_n hE (nw_of q1023 rfl)) (fun _ h => h) hS hv hdg kk
theorem hg_X0_251 (hx : p.tables.exec = Jvm.exec) (hb : c.code = cc) (hts : ∀ w ∈ lw_all, w.before args s = true) (hown : s.vm.findClass RX0 = some m.cls) (hE : hEnv G A s) (hRR : hRep G s S H) (hg : hoR S a 6 3) (hdg : decode cc pc = .ok (.getfield 251, 3)) (kk : W p l e R s m args below meth c H locs cells slots Q (F0 m (pc + 3) ls (.ref (hfR S a 3) :: rest))) : W p l e R s m args below meth c H locs cells slots Q (F0 m pc ls (.ref a :: rest)) := by
  obtain ⟨fs, v, hS, hv⟩ := hg
  have e : hfR S a 3 = v := by simp [hfR, hS, hv]
  rw [e] at kk
  exact hh_get hx hb hts hown hE hRR in_X6 (by rfl : hcl[6]? = _) rfl 3 (by decide) rfl rfl (hlk_n hE (nw_of q1398 rfl)) (fun _ h => h) hS hv hdg kk
theorem hg_X0_254 (hx : p.tables.exec = Jvm.exec) (hb : c.code = cc) (hts : ∀ w ∈ lw_all, w.before args s = true) (hown : s.vm.findClass RX0 = some m.cls) (hE : hEnv G A s) (hRR : hRep G s S H) (hg : hoR S a 6 2) (hdg : decode cc pc = .ok (.getfield 254, 3)) (kk : W p l e R s m args below meth c H locs cells slots Q (F0 m (pc + 3) ls (.ref (hfR S a 2) :: rest))) : W p l e R s m args below meth c H locs cells slots Q (F0 m pc ls (.ref a :: rest)) := by
  obtain ⟨fs, v, hS, hv⟩ := hg
  have e : hfR S a 2 = v := by simp [hfR, hS, hv]
  rw [e] at kk
  exact hh_get hx hb hts hown hE hRR in_X6 (by rfl : hcl[6]? = _) rfl 2 (by decide) rfl rfl (hlk_n hE (nw_of q1396 rfl)) (fun _ h => h) hS hv hdg kk
theorem hg_X0_276 (hx : p.tables.exec = Jvm.exec) (hb : c.code = cc) (hts : ∀ w ∈ lw_all, w.before args s = true) (hown : s.vm.findClass RX0 = some m.cls) (hE : hEnv G A s) (hRR : hRep G s S H) (hg : hoI S a 6 1) (hdg : decode cc pc = .ok (.getfield 276, 3)) (kk : W p l e R s m args below meth c H locs cells slots Q (F0 m (pc + 3) ls (.int (hfI S a 1) :: rest))) : W p l e R s m args below meth c H locs cells slots Q (F0 m pc ls (.ref a :: rest)) := by
  obtain ⟨fs, v, hS, hv⟩ := hg
  have e : hfI S a 1 = v := by simp [hfI, hS, hv]
  rw [e] at kk
  exact hh_get hx hb hts hown hE hRR in_X6 (by rfl : hcl[6]? = _) rfl 1 (by decide) rfl rfl (hlk_n hE (nw_of q1394 rfl)) (fun _ h => h) hS hv hdg kk
theorem hg_X0_288 (hx : p.tables.exec = Jvm.exec) (hb : c.code = cc) (hts : ∀ w ∈ lw_all, w.before args s = true) (hown : s.vm.findClass RX0 = some m.cls) (hE : hEnv G A s) (hRR : hRep G s S H) (hg : hoR S a 9 10) (hdg : decode cc pc = .ok (.getfield 288, 3)) (kk : W p l e R s m args below meth c H locs cells slots Q (F0 m (pc + 3) ls (.ref (hfR S a 10) :: rest))) : W p l e R s m args below meth c H locs cells slots Q (F0 m pc ls (.ref a :: rest)) := by
  obtain ⟨fs, v, hS, hv⟩ := hg
  have e : hfR S a 10 = v := by simp [hfR, hS, hv]
  rw [e] at kk
  exact hh_get hx hb hts hown hE hRR in_X9 (by rfl : hcl[9]? = _) rfl 10 (by decide) rfl rfl (hlk_n hE (nw_of q1166 rfl)) (fun _ h => h) hS hv hdg kk
theorem hg_X0_295 (hx : p.tables.exec = Jvm.exec) (hb : c.code = cc) (hts : ∀ w ∈ lw_all, w.before args s = true) (hown : s.vm.findClass RX0 = some m.cls) (hE : hEnv G A s) (hRR : hRep G s S H) (hg : hoI S a 9 3) (hdg : decode cc pc = .ok (.getfield 295, 3)) (kk : W p l e R s m args below meth c H locs cells slots Q (F0 m (pc + 3) ls (.int (hfI S a 3) :: rest))) : W p l e R s m args below meth c H locs cells slots Q (F0 m pc ls (.ref a :: rest)) := by
  obtain ⟨fs, v, hS, hv⟩ := hg
  have e : hfI S a 3 = v := by simp [hfI, hS, hv]
  rw [e] at kk
  exact hh_get hx hb hts hown hE hRR in_X9 (by rfl : hcl[9]? = _) rfl 3 (by decide) rfl rfl (hlk_n hE (nw_of q1148 rfl)) (fun _ h => h) hS hv hdg kk
theorem hg_X0_298 (hx : p.tables.exec = Jvm.exec) (hb : c.code = cc) (hts : ∀ w ∈ lw_all, w.before args s = true) (hown : s.vm.findClass RX0 = some m.cls) (hE : hEnv G A s) (hRR : hRep G s S H) (hg : hoI S a 9 4) (hdg : decode cc pc = .ok (.getfield 298, 3)) (kk : W p l e R s m args below meth c H locs cells slots Q (F0 m (pc + 3) ls (.int (hfI S a 4) :: rest))) : W p l e R s m args below meth c H locs cells slots Q (F0 m pc ls (.ref a :: rest)) := by
  obtain ⟨fs, v, hS, hv⟩ := hg
  have e : hfI S a 4 = v := by simp [hfI, hS, hv]
  rw [e] at kk
  exact hh_get hx hb hts hown hE hRR in_X9 (by rfl : hcl[9]? = _) rfl 4 (by decide) rfl rfl (hlk_n hE (nw_of q1151 rfl)) (fun _ h => h) hS hv hdg kk
theorem hg_X0_301 (hx : p.tables.exec = Jvm.exec) (hb : c.code = cc) (hts : ∀ w ∈ lw_all, w.before args s = true) (hown : s.vm.findClass RX0 = some m.cls) (hE : hEnv G A s) (hRR : hRep G s S H) (hg : hoR S a 9 6) (hdg : decode cc pc = .ok (.getfield 301, 3)) (kk : W p l e R s m args below meth c H locs cells slots Q (F0 m (pc + 3) ls (.ref (hfR S a 6) :: rest))) : W p l e R s m args below meth c H locs cells slots Q (F0 m pc ls (.ref a :: rest)) := by
  obtain ⟨fs, v, hS, hv⟩ := hg
  have e : hfR S a 6 = v := by simp [hfR, hS, hv]
  rw [e] at kk
  exact hh_get hx hb hts hown hE hRR in_X9 (by rfl : hcl[9]? = _) rfl 6 (by decide) rfl rfl (hlk_n hE (nw_of q1156 rfl)) (fun _ h => h) hS hv hdg kk
theorem hg_X0_304 (hx : p.tables.exec = Jvm.exec) (hb : c.code = cc) (hts : ∀ w ∈ lw_all, w.before args s = true) (hown : s.vm.findClass RX0 = some m.cls) (hE : hEnv G A s) (hRR : hRep G s S H) (hg : hoI S a 9 12) (hdg : decode cc pc = .ok (.getfield 304, 3)) (kk : W p l e R s m args below meth c H locs cells slots Q (F0 m (pc + 3) ls (.int (hfI S a 12) :: rest))) : W p l e R s m args below meth c H locs cells slots Q (F0 m pc ls (.ref a :: rest)) := by
  obtain ⟨fs, v, hS, hv⟩ := hg
  have e : hfI S a 12 = v := by simp [hfI, hS, hv]
  rw [e] at kk
  exact hh_get hx hb hts hown hE hRR in_X9 (by rfl : hcl[9]? = _) rfl 12 (by decide) rfl rfl (hlk_n hE (nw_of q1170 rfl)) (fun _ h => h) hS hv hdg kk
theorem hg_X0_306 (hx : p.tables.exec = Jvm.exec) (hb : c.code = cc) (hts : ∀ w ∈ lw_all, w.before args s = true) (hown : s.vm.findClass RX0 = some m.cls) (hE : hEnv G A s) (hRR : hRep G s S H) (hg : hoN S a 9 0) (hdg : decode cc pc = .ok (.getfield 306, 3)) (kk : W p l e R s m args below meth c H locs cells slots Q (F0 m (pc + 3) ls (va_rf (hfN S a 0) :: rest))) : W p l e R s m args below meth c H locs cells slots Q (F0 m pc ls (.ref a :: rest)) := by
  obtain ⟨fs, v, hS, hv⟩ := hg
  have e : hfN S a 0 = v := by cases v <;> simp [hfN, hS, hv, va_rf]
  rw [e] at kk
  exact hh_get hx hb hts hown hE hRR in_X9 (by rfl : hcl[9]? = _) rfl 0 (by decide) rfl rfl (hlk_n hE (nw_of q1143 rfl)) (fun _ h => h) hS hv hdg kk
theorem hg_X0_310 (hx : p.tables.exec = Jvm.exec) (hb : c.code = cc) (hts : ∀ w ∈ lw_all, w.before args s = true) (hown : s.vm.findClass RX0 = some m.cls) (hE : hEnv G A s) (hRR : hRep G s S H) (hg : hoI S a 9 5) (hdg : decode cc pc = .ok (.getfield 310, 3)) (kk : W p l e R s m args below meth c H locs cells slots Q (F0 m (pc + 3) ls (.int (hfI S a 5) :: rest))) : W p l e R s m args below meth c H locs cells slots Q (F0 m pc ls (.ref a :: rest)) := by
  obtain ⟨fs, v, hS, hv⟩ := hg
  have e : hfI S a 5 = v := by simp [hfI, hS, hv]
  rw [e] at kk
  exact hh_get hx hb hts hown hE hRR in_X9 (by rfl : hcl[9]? = _) rfl 5 (by decide) rfl rfl (hlk_n hE (nw_of q1153 rfl)) (fun _ h => h) hS hv hdg kk
theorem hg_X0_313 (hx : p.tables.exec = Jvm.exec) (hb : c.code = cc) (hts : ∀ w ∈ lw_all, w.before args s = true) (hown : s.vm.findClass RX0 = some m.cls) (hE : hEnv G A s) (hRR : hRep G s S H) (hg : hoI S a 9 11) (hdg : decode cc pc = .ok (.getfield 313, 3)) (kk : W p l e R s m args below meth c H locs cells slots Q (F0 m (pc + 3) ls (.int (hfI S a 11) :: rest))) : W p l e R s m args below meth c H locs cells slots Q (F0 m pc ls (.ref a :: rest)) := by
  obtain ⟨fs, v, hS, hv⟩ := hg
  have e : hfI S a 11 = v := by simp [hfI, hS, hv]
  rw [e] at kk
  exact hh_get hx hb hts hown hE hRR in_X9 (by rfl : hcl[9]? = _) rfl 11 (by decide) rfl rfl (hlk_n hE (nw_of q1168 rfl)) (fun _ h => h) hS hv hdg kk
theorem hg_X0_316 (hx : p.tables.exec = Jvm.exec) (hb : c.code = cc) (hts : ∀ w ∈ lw_all, w.before args s = true) (hown : s.vm.findClass RX0 = some m.cls) (hE : hEnv G A s) (hRR : hRep G s S H) (hg : hoR S a 9 9) (hdg : decode cc pc = .ok (.getfield 316, 3)) (kk : W p l e R s m args below meth c H locs cells slots Q (F0 m (pc + 3) ls (.ref (hfR S a 9) :: rest))) : W p l e R s m args below meth c H locs cells slots Q (F0 m pc ls (.ref a :: rest)) := by
  obtain ⟨fs, v, hS, hv⟩ := hg
  have e : hfR S a 9 = v := by simp [hfR, hS, hv]
  rw [e] at kk
  exact hh_get hx hb hts hown hE hRR in_X9 (by rfl : hcl[9]? = _) rfl 9 (by decide) rfl rfl (hlk_n hE (nw_of q1163 rfl)) (fun _ h => h) hS hv hdg kk
theorem hg_X0_325 (hx : p.tables.exec = Jvm.exec) (hb : c.code = cc) (hts : ∀ w ∈ lw_all, w.before args s = true) (hown : s.vm.findClass RX0 = some m.cls) (hE : hEnv G A s) (hRR : hRep G s S H) (hg : hoI S a 15 0) (hdg : decode cc pc = .ok (.getfield 325, 3)) (kk : W p l e R s m args below meth c H locs cells slots Q (F0 m (pc + 3) ls (.int (hfI S a 0) :: rest))) : W p l e R s m args below meth c H locs cells slots Q (F0 m pc ls (.ref a :: rest)) := by
  obtain ⟨fs, v, hS, hv⟩ := hg
  have e : hfI S a 0 = v := by simp [hfI, hS, hv]
  rw [e] at kk
  exact hh_get hx hb hts hown hE hRR in_X15 (by rfl : hcl[15]? = _) rfl 0 (by decide) rfl rfl (hlk_n hE (nw_of q1299 rfl)) (fun _ h => h) hS hv hdg kk
theorem hg_X0_328 (hx : p.tables.exec = Jvm.exec) (hb : c.code = cc) (hts : ∀ w ∈ lw_all, w.before args s = true) (hown : s.vm.findClass RX0 = some m.cls) (hE : hEnv G A s) (hRR : hRep G s S H) (hg : hoI S a 15 1) (hdg : decode cc pc = .ok (.getfield 328, 3)) (kk : W p l e R s m args below meth c H locs cells slots Q (F0 m (pc + 3) ls (.int (hfI S a 1) :: rest))) : W p l e R s m args below meth c H locs cells slots Q (F0 m pc ls (.ref a :: rest)) := by
  obtain ⟨fs, v, hS, hv⟩ := hg
  have e : hfI S a 1 = v := by simp [hfI, hS, hv]
  rw [e] at kk
  exact hh_get hx hb hts hown hE hRR in_X15 (by rfl : hcl[15]? = _) rfl 1 (by decide) rfl rfl (hlk_n hE (nw_of q1302 rfl)) (fun _ h => h) hS hv hdg kk
theorem hg_X0_331 (hx : p.tables.exec = Jvm.exec) (hb : c.code = cc) (hts : ∀ w ∈ lw_all, w.before args s = true) (hown : s.vm.findClass RX0 = some m.cls) (hE : hEnv G A s) (hRR : hRep G s S H) (hg : hoI S a 15 2) (hdg : decode cc pc = .ok (.getfield 331, 3)) (kk : W p l e R s m args below meth c H locs cells slots Q (F0 m (pc + 3) ls (.int (hfI S a 2) :: rest))) : W p l e R s m args below meth c H locs cells slots Q (F0 m pc ls (.ref a :: rest)) := by
  obtain ⟨fs, v, hS, hv⟩ := hg
  have e : hfI S a 2 = v := by simp [hfI, hS, hv]
  rw [e] at kk
  exact hh_get hx hb hts hown hE hRR in_X15 (by rfl : hcl[15]? = _) rfl 2 (by decide) rfl rfl (hlk_n hE (nw_of q1305 rfl)) (fun _ h => h) hS hv hdg kk
theorem hg_X0_334 (hx : p.tables.exec = Jvm.exec) (hb : c.code = cc) (hts : ∀ w ∈ lw_all, w.before args s = true) (hown : s.vm.findClass RX0 = some m.cls) (hE : hEnv G A s) (hRR : hRep G s S H) (hg : hoI S a 15 3) (hdg : decode cc pc = .ok (.getfield 334, 3)) (kk : W p l e R s m args below meth c H locs cells slots Q (F0 m (pc + 3) ls (.int (hfI S a 3) :: rest))) : W p l e R s m args below meth c H locs cells slots Q (F0 m pc ls (.ref a :: rest)) := by
  obtain ⟨fs, v, hS, hv⟩ := hg
  have e : hfI S a 3 = v := by simp [hfI, hS, hv]
  rw [e] at kk
  exact hh_get hx hb hts hown hE hRR in_X15 (by rfl : hcl[15]? = _) rfl 3 (by decide) rfl rfl (hlk_n hE (nw_of q1309 rfl)) (fun _ h => h) hS hv hdg kk
theorem hg_X0_337 (hx : p.tables.exec = Jvm.exec) (hb : c.code = cc) (hts : ∀ w ∈ lw_all, w.before args s = true) (hown : s.vm.findClass RX0 = some m.cls) (hE : hEnv G A s) (hRR : hRep G s S H) (hg : hoI S a 15 4) (hdg : decode cc pc = .ok (.getfield 337, 3)) (kk : W p l e R s m args below meth c H locs cells slots Q (F0 m (pc + 3) ls (.int (hfI S a 4) :: rest))) : W p l e R s m args below meth c H locs cells slots Q (F0 m pc ls (.ref a :: rest)) := by
  obtain ⟨fs, v, hS, hv⟩ := hg
  have e : hfI S a 4 = v := by simp [hfI, hS, hv]
  rw [e] at kk
  exact hh_get hx hb hts hown hE hRR in_X15 (by rfl : hcl[15]? = _) rfl 4 (by decide) rfl rfl (hlk_n hE (nw_of q1312 rfl)) (fun _ h => h) hS hv hdg kk
theorem hg_X0_338 (hx : p.tables.exec = Jvm.exec) (hb : c.code = cc) (hts : ∀ w ∈ lw_all, w.before args s = true) (hown : s.vm.findClass RX0 = some m.cls) (hE : hEnv G A s) (hRR : hRep G s S H) (hg : hoI S a 15 5) (hdg : decode cc pc = .ok (.getfield 338, 3)) (kk : W p l e R s m args below meth c H locs cells slots Q (F0 m (pc + 3) ls (.int (hfI S a 5) :: rest))) : W p l e R s m args below meth c H locs cells slots Q (F0 m pc ls (.ref a :: rest)) := by
  obtain ⟨fs, v, hS, hv⟩ := hg
  have e : hfI S a 5 = v := by simp [hfI, hS, hv]
  rw [e] at kk
  exact hh_get hx hb hts hown hE hRR in_X15 (by rfl : hcl[15]? = _) rfl 5 (by decide) rfl rfl (hlk_n hE (nw_of q1315 rfl)) (fun _ h => h) hS hv hdg kk
theorem hg_X0_341 (hx : p.tables.exec = Jvm.exec) (hb : c.code = cc) (hts : ∀ w ∈ lw_all, w.before args s = true) (hown : s.vm.findClass RX0 = some m.cls) (hE : hEnv G A s) (hRR : hRep G s S H) (hg : hoN S a 15 7) (hdg : decode cc pc = .ok (.getfield 341, 3)) (kk : W p l e R s m args below meth c H locs cells slots Q (F0 m (pc + 3) ls (va_rf (hfN S a 7) :: rest))) : W p l e R s m args below meth c H locs cells slots Q (F0 m pc ls (.ref a :: rest)) := by
  obtain ⟨fs, v, hS, hv⟩ := hg
  have e : hfN S a 7 = v := by cases v <;> simp [hfN, hS, hv, va_rf]
  rw [e] at kk
  exact hh_get hx hb hts hown hE hRR in_X15 (by rfl : hcl[15]? = _) rfl 7 (by decide) rfl rfl (hlk_n hE (nw_of q1319 rfl)) (fun _ h => h) hS hv hdg kk
theorem hg_X0_344 (hx : p.tables.exec = Jvm.exec) (hb : c.code = cc) (hts : ∀ w ∈ lw_all, w.before args s = true) (hown : s.vm.findClass RX0 = some m.cls) (hE : hEnv G A s) (hRR : hRep G s S H) (hg : hoN S a 15 6) (hdg : decode cc pc = .ok (.getfield 344, 3)) (kk : W p l e R s m args below meth c H locs cells slots Q (F0 m (pc + 3) ls (va_rf (hfN S a 6) :: rest))) : W p l e R s m args below meth c H locs cells slots Q (F0 m pc ls (.ref a :: rest)) := by
  obtain ⟨fs, v, hS, hv⟩ := hg
  have e : hfN S a 6 = v := by cases v <;> simp [hfN, hS, hv, va_rf]
  rw [e] at kk
  exact hh_get hx hb hts hown hE hRR in_X15 (by rfl : hcl[15]? = _) rfl 6 (by decide) rfl rfl (hlk_n hE (nw_of q1317 rfl)) (fun _ h => h) hS hv hdg kk
theorem hg_X0_348 (hx : p.tables.exec = Jvm.exec) (hb : c.code = cc) (hts : ∀ w ∈ lw_all, w.before args s = true) (hown : s.vm.findClass RX0 = some m.cls) (hE : hEnv G A s) (hRR : hRep G s S H) (hg : hoR S a 10 0) (hdg : decode cc pc = .ok (.getfield 348, 3)) (kk : W p l e R s m args below meth c H locs cells slots Q (F0 m (pc + 3) ls (.ref (hfR S a 0) :: rest))) : W p l e R s m args below meth c H locs cells slots Q (F0 m pc ls (.ref a :: rest)) := by
  obtain ⟨fs, v, hS, hv⟩ := hg
  have e : hfR S a 0 = v := by simp [hfR, hS, hv]
  rw [e] at kk
  exact hh_get hx hb hts hown hE hRR in_X10 (by rfl : hcl[10]? = _) rfl 0 (by decide) rfl rfl (hlk_n hE (nw_of q1229 rfl)) (fun _ h => h) hS hv hdg kk
theorem hg_X0_365 (hx : p.tables.exec = Jvm.exec) (hb : c.code = cc) (hts : ∀ w ∈ lw_all, w.before args s = true) (hown : s.vm.findClass RX0 = some m.cls) (hE : hEnv G A s) (hRR : hRep G s S H) (hg : hoNs S a [8, 11, 12, 13, 14] 0) (hdg : decode cc pc = .ok (.getfield 365, 3)) (kk : W p l e R s m args below meth c H locs cells slots Q (F0 m (pc + 3) ls (va_rf (hfN S a 0) :: rest))) : W p l e R s m args below meth c H locs cells slots Q (F0 m pc ls (.ref a :: rest)) := by
  obtain ⟨ci, hci, hg⟩ := hg
  simp only [List.mem_cons, List.not_mem_nil, or_false] at hci
  rcases hci with rfl | rfl | rfl | rfl | rfl
  · obtain ⟨fs, v, hS, hv⟩ := hg
    have e : hfN S a 0 = v := by cases v <;> simp [hfN, hS, hv, va_rf]
    rw [e] at kk
    exact hh_get hx hb hts hown hE hRR in_X8 (by rfl : hcl[8]? = _) rfl 0 (by decide) rfl rfl (hlk_n hE (nw_of q1123 rfl)) (fun _ h => h) hS hv hdg kk
  · obtain ⟨fs, v, hS, hv⟩ := hg
    have e : hfN S a 0 = v := by cases v <;> simp [hfN, hS, hv, va_rf]
    rw [e] at kk
    exact hh_get hx hb hts hown hE hRR in_X11 (by rfl : hcl[11]? = _) rfl 0 (by decide) rfl rfl (hlk_n hE (nw_of q1123 rfl)) (fun _ h => h) hS hv hdg kk
  · obtain ⟨fs, v, hS, hv⟩ := hg
    have e : hfN S a 0 = v := by cases v <;> simp [hfN, hS, hv, va_rf]
    rw [e] at kk
    exact hh_get hx hb hts hown hE hRR in_X12 (by rfl : hcl[12]? = _) rfl 0 (by decide) rfl rfl (hlk_n hE (nw_of q1123 rfl)) (fun _ h => h) hS hv hdg kk
  · obtain ⟨fs, v, hS, hv⟩ := hg
    have e : hfN S a 0 = v := by cases v <;> simp [hfN, hS, hv, va_rf]
    rw [e] at kk
    exact hh_get hx hb hts hown hE hRR in_X13 (by rfl : hcl[13]? = _) rfl 0 (by decide) rfl rfl (hlk_n hE (nw_of q1123 rfl)) (fun _ h => h) hS hv hdg kk
  · obtain ⟨fs, v, hS, hv⟩ := hg
    have e : hfN S a 0 = v := by cases v <;> simp [hfN, hS, hv, va_rf]
    rw [e] at kk
    exact hh_get hx hb hts hown hE hRR in_X14 (by rfl : hcl[14]? = _) rfl 0 (by decide) rfl rfl (hlk_n hE (nw_of q1123 rfl)) (fun _ h => h) hS hv hdg kk
theorem hg_X0_417 (hx : p.tables.exec = Jvm.exec) (hb : c.code = cc) (hts : ∀ w ∈ lw_all, w.before args s = true) (hown : s.vm.findClass RX0 = some m.cls) (hE : hEnv G A s) (hRR : hRep G s S H) (hg : hoN S a 1 0) (hdg : decode cc pc = .ok (.getfield 417, 3)) (kk : W p l e R s m args below meth c H locs cells slots Q (F0 m (pc + 3) ls (va_rf (hfN S a 0) :: rest))) : W p l e R s m args below meth c H locs cells slots Q (F0 m pc ls (.ref a :: rest)) := by
  obtain ⟨fs, v, hS, hv⟩ := hg
  have e : hfN S a 0 = v := by cases v <;> simp [hfN, hS, hv, va_rf]
  rw [e] at kk
  exact hh_get hx hb hts hown hE hRR in_X1 (by rfl : hcl[1]? = _) rfl 0 (by decide) rfl rfl (hlk_n hE (nw_of q288 rfl)) (fun _ h => h) hS hv hdg kk
theorem hp_X0_417 {v : Value} (hx : p.tables.exec = Jvm.exec) (hb : c.code = cc) (hts : ∀ w ∈ lw_all, w.before args s = true) (hown : s.vm.findClass RX0 = some m.cls) (hE : hEnv G A s) (hRR : hRep G s S H) (hDD : hDom A s.heap S_0 S) (hS : va_S A s.heap H locs) (hg : hoP S a 1 0) (hdg : decode cc pc = .ok (.putfield 417, 3)) (kk : ∀ (S1 : hH), S1 = hpF S a 0 v → ∀ (H : Heap) (locs : List Loc), hRep G s S1 H → hDom A s.heap S_0 S1 → va_S A s.heap H locs → W p l e R s m args below meth c H locs cells slots Q (F0 m (pc + 3) ls rest)) (hz : v = .null ∨ ∃ b, v = .ref b := by first | exact Or.inl rfl | exact Or.inr ⟨_, rfl⟩ | exact va_rf_or _) : W p l e R s m args below meth c H locs cells slots Q (F0 m pc ls (v :: .ref a :: rest)) := by
  exact hh_put hx hb hts hown hE hRR hDD hS in_X1 (by rfl : hcl[1]? = _) rfl tyX1 tyX1_ok nmX1 0 (by decide) rfl rfl (hlk_n hE (nw_of q288 rfl)) (fun _ h => h) rfl (by rcases hz with rfl | ⟨b, rfl⟩ <;> rfl) (by rcases hz with rfl | ⟨b, rfl⟩ <;> rfl) hg hdg kk
theorem hg_X1_7 (hx : p.tables.exec = Jvm.exec) (hb : c.code = cc) (hts : ∀ w ∈ lw_all, w.before args s = true) (hown : s.vm.findClass RX1 = some m.cls) (hE : hEnv G A s) (hRR : hRep G s S H) (hg : hoN S a 1 0) (hdg : decode cc pc = .ok (.getfield 7, 3)) (kk : W p l e R s m args below meth c H locs cells slots Q (F0 m (pc + 3) ls (va_rf (hfN S a 0) :: rest))) : W p l e R s m args below meth c H locs cells slots Q (F0 m pc ls (.ref a :: rest)) := by
  obtain ⟨fs, v, hS, hv⟩ := hg
  have e : hfN S a 0 = v := by cases v <;> simp [hfN, hS, hv, va_rf]
  rw [e] at kk
  exact hh_get hx hb hts hown hE hRR in_X1 (by rfl : hcl[1]? = _) rfl 0 (by decide) rfl rfl (hlk_o hts q287) (fun _ h => h) hS hv hdg kk
theorem hg_X10_9 (hx : p.tables.exec = Jvm.exec) (hb : c.code = cc) (hts : ∀ w ∈ lw_all, w.before args s = true) (hown : s.vm.findClass RX10 = some m.cls) (hE : hEnv G A s) (hRR : hRep G s S H) (hg : hoR S a 10 0) (hdg : decode cc pc = .ok (.getfield 9, 3)) (kk : W p l e R s m args below meth c H locs cells slots Q (F0 m (pc + 3) ls (.ref (hfR S a 0) :: rest))) : W p l e R s m args below meth c H locs cells slots Q (F0 m pc ls (.ref a :: rest)) := by
  obtain ⟨fs, v, hS, hv⟩ := hg
  have e : hfR S a 0 = v := by simp [hfR, hS, hv]
  rw [e] at kk
  exact hh_get hx hb hts hown hE hRR in_X10 (by rfl : hcl[10]? = _) rfl 0 (by decide) rfl rfl (hlk_o hts q1227) (fun _ h => h) hS hv hdg kk
theorem hp_X10_9 {v : Value} (hx : p.tables.exec = Jvm.exec) (hb : c.code = cc) (hts : ∀ w ∈ lw_all, w.before args s = true) (hown : s.vm.findClass RX10 = some m.cls) (hE : hEnv G A s) (hRR : hRep G s S H) (hDD : hDom A s.heap S_0 S) (hS : va_S A s.heap H locs) (hmn : meth.name = "<init>") (hg : hoP S a 10 0) (hdg : decode cc pc = .ok (.putfield 9, 3)) (kk : ∀ (S1 : hH), S1 = hpF S a 0 v → ∀ (H : Heap) (locs : List Loc), hRep G s S1 H → hDom A s.heap S_0 S1 → va_S A s.heap H locs → W p l e R s m args below meth c H locs cells slots Q (F0 m (pc + 3) ls rest)) (hz : v = .null ∨ ∃ b, v = .ref b := by first | exact Or.inl rfl | exact Or.inr ⟨_, rfl⟩ | exact va_rf_or _) : W p l e R s m args below meth c H locs cells slots Q (F0 m pc ls (v :: .ref a :: rest)) := by
  exact hh_putF hx hb hts hown hE hRR hDD hS in_X10 (by rfl : hcl[10]? = _) rfl tyX10 tyX10_ok nmX10 0 (by decide) rfl rfl (hts _ q1227) (fun _ h => h) rfl hmn rfl (by rcases hz with rfl | ⟨b, rfl⟩ <;> rfl) (by rcases hz with rfl | ⟨b, rfl⟩ <;> rfl) hg hdg kk
theorem hp_X10_15 {v : Int32} (hx : p.tables.exec = Jvm.exec) (hb : c.code = cc) (hts : ∀ w ∈ lw_all, w.before args s = true) (hown : s.vm.findClass RX10 = some m.cls) (hE : hEnv G A s) (hRR : hRep G s S H) (hDD : hDom A s.heap S_0 S) (hS : va_S A s.heap H locs) (hg : hoP S a 10 1) (hdg : decode cc pc = .ok (.putfield 15, 3)) (kk : ∀ (S1 : hH), S1 = hpF S a 1 (.int v) → ∀ (H : Heap) (locs : List Loc), hRep G s S1 H → hDom A s.heap S_0 S1 → va_S A s.heap H locs → W p l e R s m args below meth c H locs cells slots Q (F0 m (pc + 3) ls rest)) : W p l e R s m args below meth c H locs cells slots Q (F0 m pc ls ((.int v) :: .ref a :: rest)) := by
  exact hh_put hx hb hts hown hE hRR hDD hS in_X10 (by rfl : hcl[10]? = _) rfl tyX10 tyX10_ok nmX10 1 (by decide) rfl rfl (hlk_o hts q1230) (fun _ h => h) rfl rfl rfl hg hdg kk
theorem hg_X11_7 (hx : p.tables.exec = Jvm.exec) (hb : c.code = cc) (hts : ∀ w ∈ lw_all, w.before args s = true) (hown : s.vm.findClass RX11 = some m.cls) (hE : hEnv G A s) (hRR : hRep G s S H) (hg : hoIs S a [11, 12, 13] 1) (hdg : decode cc pc = .ok (.getfield 7, 3)) (kk : W p l e R s m args below meth c H locs cells slots Q (F0 m (pc + 3) ls (.int (hfI S a 1) :: rest))) : W p l e R s m args below meth c H locs cells slots Q (F0 m pc ls (.ref a :: rest)) := by
  obtain ⟨ci, hci, hg⟩ := hg
  simp only [List.mem_cons, List.not_mem_nil, or_false] at hci
  rcases hci with rfl | rfl | rfl
  · obtain ⟨fs, v, hS, hv⟩ := hg
    have e : hfI S a 1 = v := by simp [hfI, hS, hv]
    rw [e] at kk
    exact hh_get hx hb hts hown hE hRR in_X11 (by rfl : hcl[11]? = _) rfl 1 (by decide) rfl rfl (hlk_o hts q1265) (fun _ h => h) hS hv hdg kk
  · obtain ⟨fs, v, hS, hv⟩ := hg
    have e : hfI S a 1 = v := by simp [hfI, hS, hv]
    rw [e] at kk
    exact hh_get hx hb hts hown hE hRR in_X12 (by rfl : hcl[12]? = _) rfl 1 (by decide) rfl rfl (hlk_o hts q1265) (fun _ h => h) hS hv hdg kk
  · obtain ⟨fs, v, hS, hv⟩ := hg
    have e : hfI S a 1 = v := by simp [hfI, hS, hv]
    rw [e] at kk
    exact hh_get hx hb hts hown hE hRR in_X13 (by rfl : hcl[13]? = _) rfl 1 (by decide) rfl rfl (hlk_o hts q1265) (fun _ h => h) hS hv hdg kk
theorem hp_X11_7 {v : Int32} (hx : p.tables.exec = Jvm.exec) (hb : c.code = cc) (hts : ∀ w ∈ lw_all, w.before args s = true) (hown : s.vm.findClass RX11 = some m.cls) (hE : hEnv G A s) (hRR : hRep G s S H) (hDD : hDom A s.heap S_0 S) (hS : va_S A s.heap H locs) (hmn : meth.name = "<init>") (hg : hoPs S a [11, 12, 13] 1) (hdg : decode cc pc = .ok (.putfield 7, 3)) (kk : ∀ (S1 : hH), S1 = hpF S a 1 (.int v) → ∀ (H : Heap) (locs : List Loc), hRep G s S1 H → hDom A s.heap S_0 S1 → va_S A s.heap H locs → W p l e R s m args below meth c H locs cells slots Q (F0 m (pc + 3) ls rest)) : W p l e R s m args below meth c H locs cells slots Q (F0 m pc ls ((.int v) :: .ref a :: rest)) := by
  obtain ⟨ci, hci, hg⟩ := hg
  simp only [List.mem_cons, List.not_mem_nil, or_false] at hci
  rcases hci with rfl | rfl | rfl
  · exact hh_putF hx hb hts hown hE hRR hDD hS in_X11 (by rfl : hcl[11]? = _) rfl tyX11 tyX11_ok nmX11 1 (by decide) rfl rfl (hts _ q1265) (fun _ h => h) rfl hmn rfl rfl rfl hg hdg kk
  · exact hh_putF hx hb hts hown hE hRR hDD hS in_X12 (by rfl : hcl[12]? = _) rfl tyX12 tyX12_ok nmX12 1 (by decide) rfl rfl (hts _ q1265) (fun _ h => h) rfl hmn rfl rfl rfl hg hdg kk
  · exact hh_putF hx hb hts hown hE hRR hDD hS in_X13 (by rfl : hcl[13]? = _) rfl tyX13 tyX13_ok nmX13 1 (by decide) rfl rfl (hts _ q1265) (fun _ h => h) rfl hmn rfl rfl rfl hg hdg kk
theorem hp_X15_7 {v : Int32} (hx : p.tables.exec = Jvm.exec) (hb : c.code = cc) (hts : ∀ w ∈ lw_all, w.before args s = true) (hown : s.vm.findClass RX15 = some m.cls) (hE : hEnv G A s) (hRR : hRep G s S H) (hDD : hDom A s.heap S_0 S) (hS : va_S A s.heap H locs) (hmn : meth.name = "<init>") (hg : hoP S a 15 0) (hdg : decode cc pc = .ok (.putfield 7, 3)) (kk : ∀ (S1 : hH), S1 = hpF S a 0 (.int v) → ∀ (H : Heap) (locs : List Loc), hRep G s S1 H → hDom A s.heap S_0 S1 → va_S A s.heap H locs → W p l e R s m args below meth c H locs cells slots Q (F0 m (pc + 3) ls rest)) : W p l e R s m args below meth c H locs cells slots Q (F0 m pc ls ((.int v) :: .ref a :: rest)) := by
  exact hh_putF hx hb hts hown hE hRR hDD hS in_X15 (by rfl : hcl[15]? = _) rfl tyX15 tyX15_ok nmX15 0 (by decide) rfl rfl (hts _ q1297) (fun _ h => h) rfl hmn rfl rfl rfl hg hdg kk
theorem hp_X15_13 {v : Int32} (hx : p.tables.exec = Jvm.exec) (hb : c.code = cc) (hts : ∀ w ∈ lw_all, w.before args s = true) (hown : s.vm.findClass RX15 = some m.cls) (hE : hEnv G A s) (hRR : hRep G s S H) (hDD : hDom A s.heap S_0 S) (hS : va_S A s.heap H locs) (hmn : meth.name = "<init>") (hg : hoP S a 15 1) (hdg : decode cc pc = .ok (.putfield 13, 3)) (kk : ∀ (S1 : hH), S1 = hpF S a 1 (.int v) → ∀ (H : Heap) (locs : List Loc), hRep G s S1 H → hDom A s.heap S_0 S1 → va_S A s.heap H locs → W p l e R s m args below meth c H locs cells slots Q (F0 m (pc + 3) ls rest)) : W p l e R s m args below meth c H locs cells slots Q (F0 m pc ls ((.int v) :: .ref a :: rest)) := by
  exact hh_putF hx hb hts hown hE hRR hDD hS in_X15 (by rfl : hcl[15]? = _) rfl tyX15 tyX15_ok nmX15 1 (by decide) rfl rfl (hts _ q1300) (fun _ h => h) rfl hmn rfl rfl rfl hg hdg kk
theorem hp_X15_16 {v : Int32} (hx : p.tables.exec = Jvm.exec) (hb : c.code = cc) (hts : ∀ w ∈ lw_all, w.before args s = true) (hown : s.vm.findClass RX15 = some m.cls) (hE : hEnv G A s) (hRR : hRep G s S H) (hDD : hDom A s.heap S_0 S) (hS : va_S A s.heap H locs) (hmn : meth.name = "<init>") (hg : hoP S a 15 2) (hdg : decode cc pc = .ok (.putfield 16, 3)) (kk : ∀ (S1 : hH), S1 = hpF S a 2 (.int v) → ∀ (H : Heap) (locs : List Loc), hRep G s S1 H → hDom A s.heap S_0 S1 → va_S A s.heap H locs → W p l e R s m args below meth c H locs cells slots Q (F0 m (pc + 3) ls rest)) : W p l e R s m args below meth c H locs cells slots Q (F0 m pc ls ((.int v) :: .ref a :: rest)) := by
  exact hh_putF hx hb hts hown hE hRR hDD hS in_X15 (by rfl : hcl[15]? = _) rfl tyX15 tyX15_ok nmX15 2 (by decide) rfl rfl (hts _ q1303) (fun _ h => h) rfl hmn rfl rfl rfl hg hdg kk
theorem hg_X15_23 (hx : p.tables.exec = Jvm.exec) (hb : c.code = cc) (hts : ∀ w ∈ lw_all, w.before args s = true) (hown : s.vm.findClass RX15 = some m.cls) (hE : hEnv G A s) (hRR : hRep G s S H) (hg : hoI S a 15 4) (hdg : decode cc pc = .ok (.getfield 23, 3)) (kk : W p l e R s m args below meth c H locs cells slots Q (F0 m (pc + 3) ls (.int (hfI S a 4) :: rest))) : W p l e R s m args below meth c H locs cells slots Q (F0 m pc ls (.ref a :: rest)) := by
  obtain ⟨fs, v, hS, hv⟩ := hg
  have e : hfI S a 4 = v := by simp [hfI, hS, hv]
  rw [e] at kk
  exact hh_get hx hb hts hown hE hRR in_X15 (by rfl : hcl[15]? = _) rfl 4 (by decide) rfl rfl (hlk_o hts q1310) (fun _ h => h) hS hv hdg kk
theorem hp_X15_23 {v : Int32} (hx : p.tables.exec = Jvm.exec) (hb : c.code = cc) (hts : ∀ w ∈ lw_all, w.before args s = true) (hown : s.vm.findClass RX15 = some m.cls) (hE : hEnv G A s) (hRR : hRep G s S H) (hDD : hDom A s.heap S_0 S) (hS : va_S A s.heap H locs) (hg : hoP S a 15 4) (hdg : decode cc pc = .ok (.putfield 23, 3)) (kk : ∀ (S1 : hH), S1 = hpF S a 4 (.int v) → ∀ (H : Heap) (locs : List Loc), hRep G s S1 H → hDom A s.heap S_0 S1 → va_S A s.heap H locs → W p l e R s m args below meth c H locs cells slots Q (F0 m (pc + 3) ls rest)) : W p l e R s m args below meth c H locs cells slots Q (F0 m pc ls ((.int v) :: .ref a :: rest)) := by
  exact hh_put hx hb hts hown hE hRR hDD hS in_X15 (by rfl : hcl[15]? = _) rfl tyX15 tyX15_ok nmX15 4 (by decide) rfl rfl (hlk_o hts q1310) (fun _ h => h) rfl rfl rfl hg hdg kk
theorem hp_X15_26 {v : Int32} (hx : p.tables.exec = Jvm.exec) (hb : c.code = cc) (hts : ∀ w ∈ lw_all, w.before args s = true) (hown : s.vm.findClass RX15 = some m.cls) (hE : hEnv G A s) (hRR : hRep G s S H) (hDD : hDom A s.heap S_0 S) (hS : va_S A s.heap H locs) (hg : hoP S a 15 3) (hdg : decode cc pc = .ok (.putfield 26, 3)) (kk : ∀ (S1 : hH), S1 = hpF S a 3 (.int v) → ∀ (H : Heap) (locs : List Loc), hRep G s S1 H → hDom A s.heap S_0 S1 → va_S A s.heap H locs → W p l e R s m args below meth c H locs cells slots Q (F0 m (pc + 3) ls rest)) : W p l e R s m args below meth c H locs cells slots Q (F0 m pc ls ((.int v) :: .ref a :: rest)) := by
  exact hh_put hx hb hts hown hE hRR hDD hS in_X15 (by rfl : hcl[15]? = _) rfl tyX15 tyX15_ok nmX15 3 (by decide) rfl rfl (hlk_o hts q1306) (fun _ h => h) rfl rfl rfl hg hdg kk
theorem hg_X3_9 (hx : p.tables.exec = Jvm.exec) (hb : c.code = cc) (hts : ∀ w ∈ lw_all, w.before args s = true) (hown : s.vm.findClass RX3 = some m.cls) (hE : hEnv G A s) (hRR : hRep G s S H) (hg : hoR S a 3 1) (hdg : decode cc pc = .ok (.getfield 9, 3)) (kk : W p l e R s m args below meth c H locs cells slots Q (F0 m (pc + 3) ls (.ref (hfR S a 1) :: rest))) : W p l e R s m args below meth c H locs cells slots Q (F0 m pc ls (.ref a :: rest)) := by
  obtain ⟨fs, v, hS, hv⟩ := hg
  have e : hfR S a 1 = v := by simp [hfR, hS, hv]
  rw [e] at kk
  exact hh_get hx hb hts hown hE hRR in_X3 (by rfl : hcl[3]? = _) rfl 1 (by decide) rfl rfl (hlk_o hts q933) (fun _ h => h) hS hv hdg kk
theorem hp_X3_9 {v : Value} (hx : p.tables.exec = Jvm.exec) (hb : c.code = cc) (hts : ∀ w ∈ lw_all, w.before args s = true) (hown : s.vm.findClass RX3 = some m.cls) (hE : hEnv G A s) (hRR : hRep G s S H) (hDD : hDom A s.heap S_0 S) (hS : va_S A s.heap H locs) (hmn : meth.name = "<init>") (hg : hoP S a 3 1) (hdg : decode cc pc = .ok (.putfield 9, 3)) (kk : ∀ (S1 : hH), S1 = hpF S a 1 v → ∀ (H : Heap) (locs : List Loc), hRep G s S1 H → hDom A s.heap S_0 S1 → va_S A s.heap H locs → W p l e R s m args below meth c H locs cells slots Q (F0 m (pc + 3) ls rest)) (hz : v = .null ∨ ∃ b, v = .ref b := by first | exact Or.inl rfl | exact Or.inr ⟨_, rfl⟩ | exact va_rf_or _) : W p l e R s m args below meth c H locs cells slots Q (F0 m pc ls (v :: .ref a :: rest)) := by
  exact hh_putF hx hb hts hown hE hRR hDD hS in_X3 (by rfl : hcl[3]? = _) rfl tyX3 tyX3_ok nmX3 1 (by decide) rfl rfl (hts _ q933) (fun _ h => h) rfl hmn rfl (by rcases hz with rfl | ⟨b, rfl⟩ <;> rfl) (by rcases hz with rfl | ⟨b, rfl⟩ <;> rfl) hg hdg kk
theorem hg_X3_15 (hx : p.tables.exec = Jvm.exec) (hb : c.code = cc) (hts : ∀ w ∈ lw_all, w.before args s = true) (hown : s.vm.findClass RX3 = some m.cls) (hE : hEnv G A s) (hRR : hRep G s S H) (hg : hoR S a 3 0) (hdg : decode cc pc = .ok (.getfield 15, 3)) (kk : W p l e R s m args below meth c H locs cells slots Q (F0 m (pc + 3) ls (.ref (hfR S a 0) :: rest))) : W p l e R s m args below meth c H locs cells slots Q (F0 m pc ls (.ref a :: rest)) := by
  obtain ⟨fs, v, hS, hv⟩ := hg
  have e : hfR S a 0 = v := by simp [hfR, hS, hv]
  rw [e] at kk
  exact hh_get hx hb hts hown hE hRR in_X3 (by rfl : hcl[3]? = _) rfl 0 (by decide) rfl rfl (hlk_o hts q932) (fun _ h => h) hS hv hdg kk
theorem hp_X3_15 {v : Value} (hx : p.tables.exec = Jvm.exec) (hb : c.code = cc) (hts : ∀ w ∈ lw_all, w.before args s = true) (hown : s.vm.findClass RX3 = some m.cls) (hE : hEnv G A s) (hRR : hRep G s S H) (hDD : hDom A s.heap S_0 S) (hS : va_S A s.heap H locs) (hmn : meth.name = "<init>") (hg : hoP S a 3 0) (hdg : decode cc pc = .ok (.putfield 15, 3)) (kk : ∀ (S1 : hH), S1 = hpF S a 0 v → ∀ (H : Heap) (locs : List Loc), hRep G s S1 H → hDom A s.heap S_0 S1 → va_S A s.heap H locs → W p l e R s m args below meth c H locs cells slots Q (F0 m (pc + 3) ls rest)) (hz : v = .null ∨ ∃ b, v = .ref b := by first | exact Or.inl rfl | exact Or.inr ⟨_, rfl⟩ | exact va_rf_or _) : W p l e R s m args below meth c H locs cells slots Q (F0 m pc ls (v :: .ref a :: rest)) := by
  exact hh_putF hx hb hts hown hE hRR hDD hS in_X3 (by rfl : hcl[3]? = _) rfl tyX3 tyX3_ok nmX3 0 (by decide) rfl rfl (hts _ q932) (fun _ h => h) rfl hmn rfl (by rcases hz with rfl | ⟨b, rfl⟩ <;> rfl) (by rcases hz with rfl | ⟨b, rfl⟩ <;> rfl) hg hdg kk
theorem hg_X3_19 (hx : p.tables.exec = Jvm.exec) (hb : c.code = cc) (hts : ∀ w ∈ lw_all, w.before args s = true) (hown : s.vm.findClass RX3 = some m.cls) (hE : hEnv G A s) (hRR : hRep G s S H) (hg : hoI S a 3 2) (hdg : decode cc pc = .ok (.getfield 19, 3)) (kk : W p l e R s m args below meth c H locs cells slots Q (F0 m (pc + 3) ls (.int (hfI S a 2) :: rest))) : W p l e R s m args below meth c H locs cells slots Q (F0 m pc ls (.ref a :: rest)) := by
  obtain ⟨fs, v, hS, hv⟩ := hg
  have e : hfI S a 2 = v := by simp [hfI, hS, hv]
  rw [e] at kk
  exact hh_get hx hb hts hown hE hRR in_X3 (by rfl : hcl[3]? = _) rfl 2 (by decide) rfl rfl (hlk_o hts q934) (fun _ h => h) hS hv hdg kk
theorem hp_X3_19 {v : Int32} (hx : p.tables.exec = Jvm.exec) (hb : c.code = cc) (hts : ∀ w ∈ lw_all, w.before args s = true) (hown : s.vm.findClass RX3 = some m.cls) (hE : hEnv G A s) (hRR : hRep G s S H) (hDD : hDom A s.heap S_0 S) (hS : va_S A s.heap H locs) (hg : hoP S a 3 2) (hdg : decode cc pc = .ok (.putfield 19, 3)) (kk : ∀ (S1 : hH), S1 = hpF S a 2 (.int v) → ∀ (H : Heap) (locs : List Loc), hRep G s S1 H → hDom A s.heap S_0 S1 → va_S A s.heap H locs → W p l e R s m args below meth c H locs cells slots Q (F0 m (pc + 3) ls rest)) : W p l e R s m args below meth c H locs cells slots Q (F0 m pc ls ((.int v) :: .ref a :: rest)) := by
  exact hh_put hx hb hts hown hE hRR hDD hS in_X3 (by rfl : hcl[3]? = _) rfl tyX3 tyX3_ok nmX3 2 (by decide) rfl rfl (hlk_o hts q934) (fun _ h => h) rfl rfl rfl hg hdg kk
theorem hp_X4_7 {v : Int32} (hx : p.tables.exec = Jvm.exec) (hb : c.code = cc) (hts : ∀ w ∈ lw_all, w.before args s = true) (hown : s.vm.findClass RX4 = some m.cls) (hE : hEnv G A s) (hRR : hRep G s S H) (hDD : hDom A s.heap S_0 S) (hS : va_S A s.heap H locs) (hmn : meth.name = "<init>") (hg : hoP S a 4 6) (hdg : decode cc pc = .ok (.putfield 7, 3)) (kk : ∀ (S1 : hH), S1 = hpF S a 6 (.int v) → ∀ (H : Heap) (locs : List Loc), hRep G s S1 H → hDom A s.heap S_0 S1 → va_S A s.heap H locs → W p l e R s m args below meth c H locs cells slots Q (F0 m (pc + 3) ls rest)) : W p l e R s m args below meth c H locs cells slots Q (F0 m pc ls ((.int v) :: .ref a :: rest)) := by
  exact hh_putF hx hb hts hown hE hRR hDD hS in_X4 (by rfl : hcl[4]? = _) rfl tyX4 tyX4_ok nmX4 6 (by decide) rfl rfl (hts _ q1022) (fun _ h => h) rfl hmn rfl rfl rfl hg hdg kk
theorem hp_X5_7 {v : Value} (hx : p.tables.exec = Jvm.exec) (hb : c.code = cc) (hts : ∀ w ∈ lw_all, w.before args s = true) (hown : s.vm.findClass RX5 = some m.cls) (hE : hEnv G A s) (hRR : hRep G s S H) (hDD : hDom A s.heap S_0 S) (hS : va_S A s.heap H locs) (hmn : meth.name = "<init>") (hg : hoP S a 5 0) (hdg : decode cc pc = .ok (.putfield 7, 3)) (kk : ∀ (S1 : hH), S1 = hpF S a 0 v → ∀ (H : Heap) (locs : List Loc), hRep G s S1 H → hDom A s.heap S_0 S1 → va_S A s.heap H locs → W p l e R s m args below meth c H locs cells slots Q (F0 m (pc + 3) ls rest)) (hz : v = .null ∨ ∃ b, v = .ref b := by first | exact Or.inl rfl | exact Or.inr ⟨_, rfl⟩ | exact va_rf_or _) : W p l e R s m args below meth c H locs cells slots Q (F0 m pc ls (v :: .ref a :: rest)) := by
  exact hh_putF hx hb hts hown hE hRR hDD hS in_X5 (by rfl : hcl[5]? = _) rfl tyX5 tyX5_ok nmX5 0 (by decide) rfl rfl (hts _ q526) (fun _ h => h) rfl hmn rfl (by rcases hz with rfl | ⟨b, rfl⟩ <;> rfl) (by rcases hz with rfl | ⟨b, rfl⟩ <;> rfl) hg hdg kk
theorem hp_X5_13 {v : Int32} (hx : p.tables.exec = Jvm.exec) (hb : c.code = cc) (hts : ∀ w ∈ lw_all, w.before args s = true) (hown : s.vm.findClass RX5 = some m.cls) (hE : hEnv G A s) (hRR : hRep G s S H) (hDD : hDom A s.heap S_0 S) (hS : va_S A s.heap H locs) (hmn : meth.name = "<init>") (hg : hoP S a 5 1) (hdg : decode cc pc = .ok (.putfield 13, 3)) (kk : ∀ (S1 : hH), S1 = hpF S a 1 (.int v) → ∀ (H : Heap) (locs : List Loc), hRep G s S1 H → hDom A s.heap S_0 S1 → va_S A s.heap H locs → W p l e R s m args below meth c H locs cells slots Q (F0 m (pc + 3) ls rest)) : W p l e R s m args below meth c H locs cells slots Q (F0 m pc ls ((.int v) :: .ref a :: rest)) := by
  exact hh_putF hx hb hts hown hE hRR hDD hS in_X5 (by rfl : hcl[5]? = _) rfl tyX5 tyX5_ok nmX5 1 (by decide) rfl rfl (hts _ q529) (fun _ h => h) rfl hmn rfl rfl rfl hg hdg kk
theorem hg_X6_3 (hx : p.tables.exec = Jvm.exec) (hb : c.code = cc) (hts : ∀ w ∈ lw_all, w.before args s = true) (hown : s.vm.findClass RX6 = some m.cls) (hE : hEnv G A s) (hRR : hRep G s S H) (hg : hoR S a 6 7) (hdg : decode cc pc = .ok (.getfield 3, 3)) (kk : W p l e R s m args below meth c H locs cells slots Q (F0 m (pc + 3) ls (.ref (hfR S a 7) :: rest))) : W p l e R s m args below meth c H locs cells slots Q (F0 m pc ls (.ref a :: rest)) := by
  obtain ⟨fs, v, hS, hv⟩ := hg
  have e : hfR S a 7 = v := by simp [hfR, hS, hv]
  rw [e] at kk
  exact hh_get hx hb hts hown hE hRR in_X6 (by rfl : hcl[6]? = _) rfl 7 (by decide) rfl rfl (hlk_o hts q1402) (fun _ h => h) hS hv hdg kk
theorem hp_X6_3 {v : Value} (hx : p.tables.exec = Jvm.exec) (hb : c.code = cc) (hts : ∀ w ∈ lw_all, w.before args s = true) (hown : s.vm.findClass RX6 = some m.cls) (hE : hEnv G A s) (hRR : hRep G s S H) (hDD : hDom A s.heap S_0 S) (hS : va_S A s.heap H locs) (hmn : meth.name = "<init>") (hg : hoP S a 6 7) (hdg : decode cc pc = .ok (.putfield 3, 3)) (kk : ∀ (S1 : hH), S1 = hpF S a 7 v → ∀ (H : Heap) (locs : List Loc), hRep G s S1 H → hDom A s.heap S_0 S1 → va_S A s.heap H locs → W p l e R s m args below meth c H locs cells slots Q (F0 m (pc + 3) ls rest)) (hz : v = .null ∨ ∃ b, v = .ref b := by first | exact Or.inl rfl | exact Or.inr ⟨_, rfl⟩ | exact va_rf_or _) : W p l e R s m args below meth c H locs cells slots Q (F0 m pc ls (v :: .ref a :: rest)) := by
  exact hh_putF hx hb hts hown hE hRR hDD hS in_X6 (by rfl : hcl[6]? = _) rfl tyX6 tyX6_ok nmX6 7 (by decide) rfl rfl (hts _ q1402) (fun _ h => h) rfl hmn rfl (by rcases hz with rfl | ⟨b, rfl⟩ <;> rfl) (by rcases hz with rfl | ⟨b, rfl⟩ <;> rfl) hg hdg kk
theorem hg_X6_18 (hx : p.tables.exec = Jvm.exec) (hb : c.code = cc) (hts : ∀ w ∈ lw_all, w.before args s = true) (hown : s.vm.findClass RX6 = some m.cls) (hE : hEnv G A s) (hRR : hRep G s S H) (hg : hoR S a 6 2) (hdg : decode cc pc = .ok (.getfield 18, 3)) (kk : W p l e R s m args below meth c H locs cells slots Q (F0 m (pc + 3) ls (.ref (hfR S a 2) :: rest))) : W p l e R s m args below meth c H locs cells slots Q (F0 m pc ls (.ref a :: rest)) := by
  obtain ⟨fs, v, hS, hv⟩ := hg
  have e : hfR S a 2 = v := by simp [hfR, hS, hv]
  rw [e] at kk
  exact hh_get hx hb hts hown hE hRR in_X6 (by rfl : hcl[6]? = _) rfl 2 (by decide) rfl rfl (hlk_o hts q1395) (fun _ h => h) hS hv hdg kk
theorem hp_X6_18 {v : Value} (hx : p.tables.exec = Jvm.exec) (hb : c.code = cc) (hts : ∀ w ∈ lw_all, w.before args s = true) (hown : s.vm.findClass RX6 = some m.cls) (hE : hEnv G A s) (hRR : hRep G s S H) (hDD : hDom A s.heap S_0 S) (hS : va_S A s.heap H locs) (hmn : meth.name = "<init>") (hg : hoP S a 6 2) (hdg : decode cc pc = .ok (.putfield 18, 3)) (kk : ∀ (S1 : hH), S1 = hpF S a 2 v → ∀ (H : Heap) (locs : List Loc), hRep G s S1 H → hDom A s.heap S_0 S1 → va_S A s.heap H locs → W p l e R s m args below meth c H locs cells slots Q (F0 m (pc + 3) ls rest)) (hz : v = .null ∨ ∃ b, v = .ref b := by first | exact Or.inl rfl | exact Or.inr ⟨_, rfl⟩ | exact va_rf_or _) : W p l e R s m args below meth c H locs cells slots Q (F0 m pc ls (v :: .ref a :: rest)) := by
  exact hh_putF hx hb hts hown hE hRR hDD hS in_X6 (by rfl : hcl[6]? = _) rfl tyX6 tyX6_ok nmX6 2 (by decide) rfl rfl (hts _ q1395) (fun _ h => h) rfl hmn rfl (by rcases hz with rfl | ⟨b, rfl⟩ <;> rfl) (by rcases hz with rfl | ⟨b, rfl⟩ <;> rfl) hg hdg kk
theorem hg_X6_22 (hx : p.tables.exec = Jvm.exec) (hb : c.code = cc) (hts : ∀ w ∈ lw_all, w.before args s = true) (hown : s.vm.findClass RX6 = some m.cls) (hE : hEnv G A s) (hRR : hRep G s S H) (hg : hoR S a 6 3) (hdg : decode cc pc = .ok (.getfield 22, 3)) (kk : W p l e R s m args below meth c H locs cells slots Q (F0 m (pc + 3) ls (.ref (hfR S a 3) :: rest))) : W p l e R s m args below meth c H locs cells slots Q (F0 m pc ls (.ref a :: rest)) := by
  obtain ⟨fs, v, hS, hv⟩ := hg
  have e : hfR S a 3 = v := by simp [hfR, hS, hv]
  rw [e] at kk
  exact hh_get hx hb hts hown hE hRR in_X6 (by rfl : hcl[6]? = _) rfl 3 (by decide) rfl rfl (hlk_o hts q1397) (fun _ h => h) hS hv hdg kk
theorem hp_X6_22 {v : Value} (hx : p.tables.exec = Jvm.exec) (hb : c.code = cc) (hts : ∀ w ∈ lw_all, w.before args s = true) (hown : s.vm.findClass RX6 = some m.cls) (hE : hEnv G A s) (hRR : hRep G s S H) (hDD : hDom A s.heap S_0 S) (hS : va_S A s.heap H locs) (hmn : meth.name = "<init>") (hg : hoP S a 6 3) (hdg : decode cc pc = .ok (.putfield 22, 3)) (kk : ∀ (S1 : hH), S1 = hpF S a 3 v → ∀ (H : Heap) (locs : List Loc), hRep G s S1 H → hDom A s.heap S_0 S1 → va_S A s.heap H locs → W p l e R s m args below meth c H locs cells slots Q (F0 m (pc + 3) ls rest)) (hz : v = .null ∨ ∃ b, v = .ref b := by first | exact Or.inl rfl | exact Or.inr ⟨_, rfl⟩ | exact va_rf_or _) : W p l e R s m args below meth c H locs cells slots Q (F0 m pc ls (v :: .ref a :: rest)) := by
  exact hh_putF hx hb hts hown hE hRR hDD hS in_X6 (by rfl : hcl[6]? = _) rfl tyX6 tyX6_ok nmX6 3 (by decide) rfl rfl (hts _ q1397) (fun _ h => h) rfl hmn rfl (by rcases hz with rfl | ⟨b, rfl⟩ <;> rfl) (by rcases hz with rfl | ⟨b, rfl⟩ <;> rfl) hg hdg kk
theorem hg_X6_25 (hx : p.tables.exec = Jvm.exec) (hb : c.code = cc) (hts : ∀ w ∈ lw_all, w.before args s = true) (hown : s.vm.findClass RX6 = some m.cls) (hE : hEnv G A s) (hRR : hRep G s S H) (hg : hoR S a 6 4) (hdg : decode cc pc = .ok (.getfield 25, 3)) (kk : W p l e R s m args below meth c H locs cells slots Q (F0 m (pc + 3) ls (.ref (hfR S a 4) :: rest))) : W p l e R s m args below meth c H locs cells slots Q (F0 m pc ls (.ref a :: rest)) := by
  obtain ⟨fs, v, hS, hv⟩ := hg
  have e : hfR S a 4 = v := by simp [hfR, hS, hv]
  rw [e] at kk
  exact hh_get hx hb hts hown hE hRR in_X6 (by rfl : hcl[6]? = _) rfl 4 (by decide) rfl rfl (hlk_o hts q1399) (fun _ h => h) hS hv hdg kk
theorem hp_X6_25 {v : Value} (hx : p.tables.exec = Jvm.exec) (hb : c.code = cc) (hts : ∀ w ∈ lw_all, w.before args s = true) (hown : s.vm.findClass RX6 = some m.cls) (hE : hEnv G A s) (hRR : hRep G s S H) (hDD : hDom A s.heap S_0 S) (hS : va_S A s.heap H locs) (hmn : meth.name = "<init>") (hg : hoP S a 6 4) (hdg : decode cc pc = .ok (.putfield 25, 3)) (kk : ∀ (S1 : hH), S1 = hpF S a 4 v → ∀ (H : Heap) (locs : List Loc), hRep G s S1 H → hDom A s.heap S_0 S1 → va_S A s.heap H locs → W p l e R s m args below meth c H locs cells slots Q (F0 m (pc + 3) ls rest)) (hz : v = .null ∨ ∃ b, v = .ref b := by first | exact Or.inl rfl | exact Or.inr ⟨_, rfl⟩ | exact va_rf_or _) : W p l e R s m args below meth c H locs cells slots Q (F0 m pc ls (v :: .ref a :: rest)) := by
  exact hh_putF hx hb hts hown hE hRR hDD hS in_X6 (by rfl : hcl[6]? = _) rfl tyX6 tyX6_ok nmX6 4 (by decide) rfl rfl (hts _ q1399) (fun _ h => h) rfl hmn rfl (by rcases hz with rfl | ⟨b, rfl⟩ <;> rfl) (by rcases hz with rfl | ⟨b, rfl⟩ <;> rfl) hg hdg kk
theorem hg_X6_33 (hx : p.tables.exec = Jvm.exec) (hb : c.code = cc) (hts : ∀ w ∈ lw_all, w.before args s = true) (hown : s.vm.findClass RX6 = some m.cls) (hE : hEnv G A s) (hRR : hRep G s S H) (hg : hoR S a 6 0) (hdg : decode cc pc = .ok (.getfield 33, 3)) (kk : W p l e R s m args below meth c H locs cells slots Q (F0 m (pc + 3) ls (.ref (hfR S a 0) :: rest))) : W p l e R s m args below meth c H locs cells slots Q (F0 m pc ls (.ref a :: rest)) := by
  obtain ⟨fs, v, hS, hv⟩ := hg
  have e : hfR S a 0 = v := by simp [hfR, hS, hv]
  rw [e] at kk
  exact hh_get hx hb hts hown hE hRR in_X6 (by rfl : hcl[6]? = _) rfl 0 (by decide) rfl rfl (hlk_o hts q1392) (fun _ h => h) hS hv hdg kk
theorem hp_X6_33 {v : Value} (hx : p.tables.exec = Jvm.exec) (hb : c.code = cc) (hts : ∀ w ∈ lw_all, w.before args s = true) (hown : s.vm.findClass RX6 = some m.cls) (hE : hEnv G A s) (hRR : hRep G s S H) (hDD : hDom A s.heap S_0 S) (hS : va_S A s.heap H locs) (hmn : meth.name = "<init>") (hg : hoP S a 6 0) (hdg : decode cc pc = .ok (.putfield 33, 3)) (kk : ∀ (S1 : hH), S1 = hpF S a 0 v → ∀ (H : Heap) (locs : List Loc), hRep G s S1 H → hDom A s.heap S_0 S1 → va_S A s.heap H locs → W p l e R s m args below meth c H locs cells slots Q (F0 m (pc + 3) ls rest)) (hz : v = .null ∨ ∃ b, v = .ref b := by first | exact Or.inl rfl | exact Or.inr ⟨_, rfl⟩ | exact va_rf_or _) : W p l e R s m args below meth c H locs cells slots Q (F0 m pc ls (v :: .ref a :: rest)) := by
  exact hh_putF hx hb hts hown hE hRR hDD hS in_X6 (by rfl : hcl[6]? = _) rfl tyX6 tyX6_ok nmX6 0 (by decide) rfl rfl (hts _ q1392) (fun _ h => h) rfl hmn rfl (by rcases hz with rfl | ⟨b, rfl⟩ <;> rfl) (by rcases hz with rfl | ⟨b, rfl⟩ <;> rfl) hg hdg kk
theorem hp_X6_41 {v : Int32} (hx : p.tables.exec = Jvm.exec) (hb : c.code = cc) (hts : ∀ w ∈ lw_all, w.before args s = true) (hown : s.vm.findClass RX6 = some m.cls) (hE : hEnv G A s) (hRR : hRep G s S H) (hDD : hDom A s.heap S_0 S) (hS : va_S A s.heap H locs) (hmn : meth.name = "<init>") (hg : hoP S a 6 1) (hdg : decode cc pc = .ok (.putfield 41, 3)) (kk : ∀ (S1 : hH), S1 = hpF S a 1 (.int v) → ∀ (H : Heap) (locs : List Loc), hRep G s S1 H → hDom A s.heap S_0 S1 → va_S A s.heap H locs → W p l e R s m args below meth c H locs cells slots Q (F0 m (pc + 3) ls rest)) : W p l e R s m args below meth c H locs cells slots Q (F0 m pc ls ((.int v) :: .ref a :: rest)) := by
  exact hh_putF hx hb hts hown hE hRR hDD hS in_X6 (by rfl : hcl[6]? = _) rfl tyX6 tyX6_ok nmX6 1 (by decide) rfl rfl (hts _ q1393) (fun _ h => h) rfl hmn rfl rfl rfl hg hdg kk
theorem hg_X6_69 (hx : p.tables.exec = Jvm.exec) (hb : c.code = cc) (hts : ∀ w ∈ lw_all, w.before args s = true) (hown : s.vm.findClass RX6 = some m.cls) (hE : hEnv G A s) (hRR : hRep G s S H) (hg : hoI S a 5 2) (hdg : decode cc pc = .ok (.getfield 69, 3)) (kk : W p l e R s m args below meth c H locs cells slots Q (F0 m (pc + 3) ls (.int (hfI S a 2) :: rest))) : W p l e R s m args below meth c H locs cells slots Q (F0 m pc ls (.ref a :: rest)) := by
  obtain ⟨fs, v, hS, hv⟩ := hg
  have e : hfI S a 2 = v := by simp [hfI, hS, hv]
  rw [e] at kk
  exact hh_get hx hb hts hown hE hRR in_X5 (by rfl : hcl[5]? = _) rfl 2 (by decide) rfl rfl (hlk_n hE (nw_of q532 rfl)) (fun _ h => h) hS hv hdg kk
theorem hg_X6_74 (hx : p.tables.exec = Jvm.exec) (hb : c.code = cc) (hts : ∀ w ∈ lw_all, w.before args s = true) (hown : s.vm.findClass RX6 = some m.cls) (hE : hEnv G A s) (hRR : hRep G s S H) (hg : hoI S a 5 1) (hdg : decode cc pc = .ok (.getfield 74, 3)) (kk : W p l e R s m args below meth c H locs cells slots Q (F0 m (pc + 3) ls (.int (hfI S a 1) :: rest))) : W p l e R s m args below meth c H locs cells slots Q (F0 m pc ls (.ref a :: rest)) := by
  obtain ⟨fs, v, hS, hv⟩ := hg
  have e : hfI S a 1 = v := by simp [hfI, hS, hv]
  rw [e] at kk
  exact hh_get hx hb hts hown hE hRR in_X5 (by rfl : hcl[5]? = _) rfl 1 (by decide) rfl rfl (hlk_n hE (nw_of q530 rfl)) (fun _ h => h) hS hv hdg kk
theorem hg_X6_82 (hx : p.tables.exec = Jvm.exec) (hb : c.code = cc) (hts : ∀ w ∈ lw_all, w.before args s = true) (hown : s.vm.findClass RX6 = some m.cls) (hE : hEnv G A s) (hRR : hRep G s S H) (hg : hoI S a 0 0) (hdg : decode cc pc = .ok (.getfield 82, 3)) (kk : W p l e R s m args below meth c H locs cells slots Q (F0 m (pc + 3) ls (.int (hfI S a 0) :: rest))) : W p l e R s m args below meth c H locs cells slots Q (F0 m pc ls (.ref a :: rest)) := by
  obtain ⟨fs, v, hS, hv⟩ := hg
  have e : hfI S a 0 = v := by simp [hfI, hS, hv]
  rw [e] at kk
  exact hh_get hx hb hts hown hE hRR in_X0 (by rfl : hcl[0]? = _) rfl 0 (by decide) rfl rfl (hlk_n hE (nw_of q293 rfl)) (fun _ h => h) hS hv hdg kk
theorem hg_X6_85 (hx : p.tables.exec = Jvm.exec) (hb : c.code = cc) (hts : ∀ w ∈ lw_all, w.before args s = true) (hown : s.vm.findClass RX6 = some m.cls) (hE : hEnv G A s) (hRR : hRep G s S H) (hg : hoR S a 5 0) (hdg : decode cc pc = .ok (.getfield 85, 3)) (kk : W p l e R s m args below meth c H locs cells slots Q (F0 m (pc + 3) ls (.ref (hfR S a 0) :: rest))) : W p l e R s m args below meth c H locs cells slots Q (F0 m pc ls (.ref a :: rest)) := by
  obtain ⟨fs, v, hS, hv⟩ := hg
  have e : hfR S a 0 = v := by simp [hfR, hS, hv]
  rw [e] at kk
  exact hh_get hx hb hts hown hE hRR in_X5 (by rfl : hcl[5]? = _) rfl 0 (by decide) rfl rfl (hlk_n hE (nw_of q527 rfl)) (fun _ h => h) hS hv hdg kk
theorem hg_X6_88 (hx : p.tables.exec = Jvm.exec) (hb : c.code = cc) (hts : ∀ w ∈ lw_all, w.before args s = true) (hown : s.vm.findClass RX6 = some m.cls) (hE : hEnv G A s) (hRR : hRep G s S H) (hg : hoJ S a 0 1) (hdg : decode cc pc = .ok (.getfield 88, 3)) (kk : W p l e R s m args below meth c H locs cells slots Q (F0 m (pc + 3) ls (.long (hfJ S a 1) :: rest))) : W p l e R s m args below meth c H locs cells slots Q (F0 m pc ls (.ref a :: rest)) := by
  obtain ⟨fs, v, hS, hv⟩ := hg
  have e : hfJ S a 1 = v := by simp [hfJ, hS, hv]
  rw [e] at kk
  exact hh_get hx hb hts hown hE hRR in_X0 (by rfl : hcl[0]? = _) rfl 1 (by decide) rfl rfl (hlk_n hE (nw_of q295 rfl)) (fun _ h => h) hS hv hdg kk
theorem hg_X6_124 (hx : p.tables.exec = Jvm.exec) (hb : c.code = cc) (hts : ∀ w ∈ lw_all, w.before args s = true) (hown : s.vm.findClass RX6 = some m.cls) (hE : hEnv G A s) (hRR : hRep G s S H) (hg : hoR S a 9 6) (hdg : decode cc pc = .ok (.getfield 124, 3)) (kk : W p l e R s m args below meth c H locs cells slots Q (F0 m (pc + 3) ls (.ref (hfR S a 6) :: rest))) : W p l e R s m args below meth c H locs cells slots Q (F0 m pc ls (.ref a :: rest)) := by
  obtain ⟨fs, v, hS, hv⟩ := hg
  have e : hfR S a 6 = v := by simp [hfR, hS, hv]
  rw [e] at kk
  exact hh_get hx hb hts hown hE hRR in_X9 (by rfl : hcl[9]? = _) rfl 6 (by decide) rfl rfl (hlk_n hE (nw_of q1155 rfl)) (fun _ h => h) hS hv hdg kk
theorem hg_X6_135 (hx : p.tables.exec = Jvm.exec) (hb : c.code = cc) (hts : ∀ w ∈ lw_all, w.before args s = true) (hown : s.vm.findClass RX6 = some m.cls) (hE : hEnv G A s) (hRR : hRep G s S H) (hg : hoI S a 15 3) (hdg : decode cc pc = .ok (.getfield 135, 3)) (kk : W p l e R s m args below meth c H locs cells slots Q (F0 m (pc + 3) ls (.int (hfI S a 3) :: rest))) : W p l e R s m args below meth c H locs cells slots Q (F0 m pc ls (.ref a :: rest)) := by
  obtain ⟨fs, v, hS, hv⟩ := hg
  have e : hfI S a 3 = v := by simp [hfI, hS, hv]
  rw [e] at kk
  exact hh_get hx hb hts hown hE hRR in_X15 (by rfl : hcl[15]? = _) rfl 3 (by decide) rfl rfl (hlk_n hE (nw_of q1308 rfl)) (fun _ h => h) hS hv hdg kk
theorem hg_X6_152 (hx : p.tables.exec = Jvm.exec) (hb : c.code = cc) (hts : ∀ w ∈ lw_all, w.before args s = true) (hown : s.vm.findClass RX6 = some m.cls) (hE : hEnv G A s) (hRR : hRep G s S H) (hg : hoI S a 9 7) (hdg : decode cc pc = .ok (.getfield 152, 3)) (kk : W p l e R s m args below meth c H locs cells slots Q (F0 m (pc + 3) ls (.int (hfI S a 7) :: rest))) : W p l e R s m args below meth c H locs cells slots Q (F0 m pc ls (.ref a :: rest)) := by
  obtain ⟨fs, v, hS, hv⟩ := hg
  have e : hfI S a 7 = v := by simp [hfI, hS, hv]
  rw [e] at kk
  exact hh_get hx hb hts hown hE hRR in_X9 (by rfl : hcl[9]? = _) rfl 7 (by decide) rfl rfl (hlk_n hE (nw_of q1158 rfl)) (fun _ h => h) hS hv hdg kk
theorem hg_X6_155 (hx : p.tables.exec = Jvm.exec) (hb : c.code = cc) (hts : ∀ w ∈ lw_all, w.before args s = true) (hown : s.vm.findClass RX6 = some m.cls) (hE : hEnv G A s) (hRR : hRep G s S H) (hg : hoN S a 6 5) (hdg : decode cc pc = .ok (.getfield 155, 3)) (kk : W p l e R s m args below meth c H locs cells slots Q (F0 m (pc + 3) ls (va_rf (hfN S a 5) :: rest))) : W p l e R s m args below meth c H locs cells slots Q (F0 m pc ls (.ref a :: rest)) := by
  obtain ⟨fs, v, hS, hv⟩ := hg
  have e : hfN S a 5 = v := by cases v <;> simp [hfN, hS, hv, va_rf]
  rw [e] at kk
  exact hh_get hx hb hts hown hE hRR in_X6 (by rfl : hcl[6]? = _) rfl 5 (by decide) rfl rfl (hlk_o hts q1400) (fun _ h => h) hS hv hdg kk
theorem hp_X6_155 {v : Value} (hx : p.tables.exec = Jvm.exec) (hb : c.code = cc) (hts : ∀ w ∈ lw_all, w.before args s = true) (hown : s.vm.findClass RX6 = some m.cls) (hE : hEnv G A s) (hRR : hRep G s S H) (hDD : hDom A s.heap S_0 S) (hS : va_S A s.heap H locs) (hg : hoP S a 6 5) (hdg : decode cc pc = .ok (.putfield 155, 3)) (kk : ∀ (S1 : hH), S1 = hpF S a 5 v → ∀ (H : Heap) (locs : List Loc), hRep G s S1 H → hDom A s.heap S_0 S1 → va_S A s.heap H locs → W p l e R s m args below meth c H locs cells slots Q (F0 m (pc + 3) ls rest)) (hz : v = .null ∨ ∃ b, v = .ref b := by first | exact Or.inl rfl | exact Or.inr ⟨_, rfl⟩ | exact va_rf_or _) : W p l e R s m args below meth c H locs cells slots Q (F0 m pc ls (v :: .ref a :: rest)) := by
  exact hh_put hx hb hts hown hE hRR hDD hS in_X6 (by rfl : hcl[6]? = _) rfl tyX6 tyX6_ok nmX6 5 (by decide) rfl rfl (hlk_o hts q1400) (fun _ h => h) rfl (by rcases hz with rfl | ⟨b, rfl⟩ <;> rfl) (by rcases hz with rfl | ⟨b, rfl⟩ <;> rfl) hg hdg kk
theorem hg_X6_159 (hx : p.tables.exec = Jvm.exec) (hb : c.code = cc) (hts : ∀ w ∈ lw_all, w.before args s = true) (hown : s.vm.findClass RX6 = some m.cls) (hE : hEnv G A s) (hRR : hRep G s S H) (hg : hoJ S a 6 6) (hdg : decode cc pc = .ok (.getfield 159, 3)) (kk : W p l e R s m args below meth c H locs cells slots Q (F0 m (pc + 3) ls (.long (hfJ S a 6) :: rest))) : W p l e R s m args below meth c H locs cells slots Q (F0 m pc ls (.ref a :: rest)) := by
  obtain ⟨fs, v, hS, hv⟩ := hg
  have e : hfJ S a 6 = v := by simp [hfJ, hS, hv]
  rw [e] at kk
  exact hh_get hx hb hts hown hE hRR in_X6 (by rfl : hcl[6]? = _) rfl 6 (by decide) rfl rfl (hlk_o hts q1401) (fun _ h => h) hS hv hdg kk
theorem hp_X6_159 {v : Int64} (hx : p.tables.exec = Jvm.exec) (hb : c.code = cc) (hts : ∀ w ∈ lw_all, w.before args s = true) (hown : s.vm.findClass RX6 = some m.cls) (hE : hEnv G A s) (hRR : hRep G s S H) (hDD : hDom A s.heap S_0 S) (hS : va_S A s.heap H locs) (hg : hoP S a 6 6) (hdg : decode cc pc = .ok (.putfield 159, 3)) (kk : ∀ (S1 : hH), S1 = hpF S a 6 (.long v) → ∀ (H : Heap) (locs : List Loc), hRep G s S1 H → hDom A s.heap S_0 S1 → va_S A s.heap H locs → W p l e R s m args below meth c H locs cells slots Q (F0 m (pc + 3) ls rest)) : W p l e R s m args below meth c H locs cells slots Q (F0 m pc ls ((.long v) :: .ref a :: rest)) := by
  exact hh_put hx hb hts hown hE hRR hDD hS in_X6 (by rfl : hcl[6]? = _) rfl tyX6 tyX6_ok nmX6 6 (by decide) rfl rfl (hlk_o hts q1401) (fun _ h => h) rfl rfl rfl hg hdg kk
theorem hg_X6_165 (hx : p.tables.exec = Jvm.exec) (hb : c.code = cc) (hts : ∀ w ∈ lw_all, w.before args s = true) (hown : s.vm.findClass RX6 = some m.cls) (hE : hEnv G A s) (hRR : hRep G s S H) (hg : hoR S a 10 0) (hdg : decode cc pc = .ok (.getfield 165, 3)) (kk : W p l e R s m args below meth c H locs cells slots Q (F0 m (pc + 3) ls (.ref (hfR S a 0) :: rest))) : W p l e R s m args below meth c H locs cells slots Q (F0 m pc ls (.ref a :: rest)) := by
  obtain ⟨fs, v, hS, hv⟩ := hg
  have e : hfR S a 0 = v := by simp [hfR, hS, hv]
  rw [e] at kk
  exact hh_get hx hb hts hown hE hRR in_X10 (by rfl : hcl[10]? = _) rfl 0 (by decide) rfl rfl (hlk_n hE (nw_of q1228 rfl)) (fun _ h => h) hS hv hdg kk
theorem hg_X6_178 (hx : p.tables.exec = Jvm.exec) (hb : c.code = cc) (hts : ∀ w ∈ lw_all, w.before args s = true) (hown : s.vm.findClass RX6 = some m.cls) (hE : hEnv G A s) (hRR : hRep G s S H) (hg : hoI S a 10 1) (hdg : decode cc pc = .ok (.getfield 178, 3)) (kk : W p l e R s m args below meth c H locs cells slots Q (F0 m (pc + 3) ls (.int (hfI S a 1) :: rest))) : W p l e R s m args below meth c H locs cells slots Q (F0 m pc ls (.ref a :: rest)) := by
  obtain ⟨fs, v, hS, hv⟩ := hg
  have e : hfI S a 1 = v := by simp [hfI, hS, hv]
  rw [e] at kk
  exact hh_get hx hb hts hown hE hRR in_X10 (by rfl : hcl[10]? = _) rfl 1 (by decide) rfl rfl (hlk_n hE (nw_of q1231 rfl)) (fun _ h => h) hS hv hdg kk
theorem hp_X6_178 {v : Int32} (hx : p.tables.exec = Jvm.exec) (hb : c.code = cc) (hts : ∀ w ∈ lw_all, w.before args s = true) (hown : s.vm.findClass RX6 = some m.cls) (hE : hEnv G A s) (hRR : hRep G s S H) (hDD : hDom A s.heap S_0 S) (hS : va_S A s.heap H locs) (hg : hoP S a 10 1) (hdg : decode cc pc = .ok (.putfield 178, 3)) (kk : ∀ (S1 : hH), S1 = hpF S a 1 (.int v) → ∀ (H : Heap) (locs : List Loc), hRep G s S1 H → hDom A s.heap S_0 S1 → va_S A s.heap H locs → W p l e R s m args below meth c H locs cells slots Q (F0 m (pc + 3) ls rest)) : W p l e R s m args below meth c H locs cells slots Q (F0 m pc ls ((.int v) :: .ref a :: rest)) := by
  exact hh_put hx hb hts hown hE hRR hDD hS in_X10 (by rfl : hcl[10]? = _) rfl tyX10 tyX10_ok nmX10 1 (by decide) rfl rfl (hlk_n hE (nw_of q1231 rfl)) (fun _ h => h) rfl rfl rfl hg hdg kk
theorem hg_X6_181 (hx : p.tables.exec = Jvm.exec) (hb : c.code = cc) (hts : ∀ w ∈ lw_all, w.before args s = true) (hown : s.vm.findClass RX6 = some m.cls) (hE : hEnv G A s) (hRR : hRep G s S H) (hg : hoI S a 9 3) (hdg : decode cc pc = .ok (.getfield 181, 3)) (kk : W p l e R s m args below meth c H locs cells slots Q (F0 m (pc + 3) ls (.int (hfI S a 3) :: rest))) : W p l e R s m args below meth c H locs cells slots Q (F0 m pc ls (.ref a :: rest)) := by
  obtain ⟨fs, v, hS, hv⟩ := hg
  have e : hfI S a 3 = v := by simp [hfI, hS, hv]
  rw [e] at kk
  exact hh_get hx hb hts hown hE hRR in_X9 (by rfl : hcl[9]? = _) rfl 3 (by decide) rfl rfl (hlk_n hE (nw_of q1147 rfl)) (fun _ h => h) hS hv hdg kk
theorem hg_X6_184 (hx : p.tables.exec = Jvm.exec) (hb : c.code = cc) (hts : ∀ w ∈ lw_all, w.before args s = true) (hown : s.vm.findClass RX6 = some m.cls) (hE : hEnv G A s) (hRR : hRep G s S H) (hg : hoN S a 15 6) (hdg : decode cc pc = .ok (.getfield 184, 3)) (kk : W p l e R s m args below meth c H locs cells slots Q (F0 m (pc + 3) ls (va_rf (hfN S a 6) :: rest))) : W p l e R s m args below meth c H locs cells slots Q (F0 m pc ls (.ref a :: rest)) := by
  obtain ⟨fs, v, hS, hv⟩ := hg
  have e : hfN S a 6 = v := by cases v <;> simp [hfN, hS, hv, va_rf]
  rw [e] at kk
  exact hh_get hx hb hts hown hE hRR in_X15 (by rfl : hcl[15]? = _) rfl 6 (by decide) rfl rfl (hlk_n hE (nw_of q1316 rfl)) (fun _ h => h) hS hv hdg kk
theorem hp_X6_184 {v : Value} (hx : p.tables.exec = Jvm.exec) (hb : c.code = cc) (hts : ∀ w ∈ lw_all, w.before args s = true) (hown : s.vm.findClass RX6 = some m.cls) (hE : hEnv G A s) (hRR : hRep G s S H) (hDD : hDom A s.heap S_0 S) (hS : va_S A s.heap H locs) (hg : hoP S a 15 6) (hdg : decode cc pc = .ok (.putfield 184, 3)) (kk : ∀ (S1 : hH), S1 = hpF S a 6 v → ∀ (H : Heap) (locs : List Loc), hRep G s S1 H → hDom A s.heap S_0 S1 → va_S A s.heap H locs → W p l e R s m args below meth c H locs cells slots Q (F0 m (pc + 3) ls rest)) (hz : v = .null ∨ ∃ b, v = .ref b := by first | exact Or.inl rfl | exact Or.inr ⟨_, rfl⟩ | exact va_rf_or _) : W p l e R s m args below meth c H locs cells slots Q (F0 m pc ls (v :: .ref a :: rest)) := by
  exact hh_put hx hb hts hown hE hRR hDD hS in_X15 (by rfl : hcl[15]? = _) rfl tyX15 tyX15_ok nmX15 6 (by decide) rfl rfl (hlk_n hE (nw_of q1316 rfl)) (fun _ h => h) rfl (by rcases hz with rfl | ⟨b, rfl⟩ <;> rfl) (by rcases hz with rfl | ⟨b, rfl⟩ <;> rfl) hg hdg kk
theorem hg_X6_201 (hx : p.tables.exec = Jvm.exec) (hb : c.code = cc) (hts : ∀ w ∈ lw_all, w.before args s = true) (hown : s.vm.findClass RX6 = some m.cls) (hE : hEnv G A s) (hRR : hRep G s S H) (hg : hoI S a 9 11) (hdg : decode cc pc = .ok (.getfield 201, 3)) (kk : W p l e R s m args below meth c H locs cells slots Q (F0 m (pc + 3) ls (.int (hfI S a 11) :: rest))) : W p l e R s m args below meth c H locs cells slots Q (F0 m pc ls (.ref a :: rest)) := by
  obtain ⟨fs, v, hS, hv⟩ := hg
  have e : hfI S a 11 = v := by simp [hfI, hS, hv]
  rw [e] at kk
  exact hh_get hx hb hts hown hE hRR in_X9 (by rfl : hcl[9]? = _) rfl 11 (by decide) rfl rfl (hlk_n hE (nw_of q1167 rfl)) (fun _ h => h) hS hv hdg kk
theorem hp_X6_201 {v : Int32} (hx : p.tables.exec = Jvm.exec) (hb : c.code = cc) (hts : ∀ w ∈ lw_all, w.before args s = true) (hown : s.vm.findClass RX6 = some m.cls) (hE : hEnv G A s) (hRR : hRep G s S H) (hDD : hDom A s.heap S_0 S) (hS : va_S A s.heap H locs) (hg : hoP S a 9 11) (hdg : decode cc pc = .ok (.putfield 201, 3)) (kk : ∀ (S1 : hH), S1 = hpF S a 11 (.int v) → ∀ (H : Heap) (locs : List Loc), hRep G s S1 H → hDom A s.heap S_0 S1 → va_S A s.heap H locs → W p l e R s m args below meth c H locs cells slots Q (F0 m (pc + 3) ls rest)) : W p l e R s m args below meth c H locs cells slots Q (F0 m pc ls ((.int v) :: .ref a :: rest)) := by
  exact hh_put hx hb hts hown hE hRR hDD hS in_X9 (by rfl : hcl[9]? = _) rfl tyX9 tyX9_ok nmX9 11 (by decide) rfl rfl (hlk_n hE (nw_of q1167 rfl)) (fun _ h => h) rfl rfl rfl hg hdg kk
theorem hg_X6_204 (hx : p.tables.exec = Jvm.exec) (hb : c.code = cc) (hts : ∀ w ∈ lw_all, w.before args s = true) (hown : s.vm.findClass RX6 = some m.cls) (hE : hEnv G A s) (hRR : hRep G s S H) (hg : hoR S a 9 9) (hdg : decode cc pc = .ok (.getfield 204, 3)) (kk : W p l e R s m args below meth c H locs cells slots Q (F0 m (pc + 3) ls (.ref (hfR S a 9) :: rest))) : W p l e R s m args below meth c H locs cells slots Q (F0 m pc ls (.ref a :: rest)) := by
  obtain ⟨fs, v, hS, hv⟩ := hg
  have e : hfR S a 9 = v := by simp [hfR, hS, hv]
  rw [e] at kk
  exact hh_get hx hb hts hown hE hRR in_X9 (by rfl : hcl[9]? = _) rfl 9 (by decide) rfl rfl (hlk_n hE (nw_of q1162 rfl)) (fun _ h => h) hS hv hdg kk
theorem hg_X6_207 (hx : p.tables.exec = Jvm.exec) (hb : c.code = cc) (hts : ∀ w ∈ lw_all, w.before args s = true) (hown : s.vm.findClass RX6 = some m.cls) (hE : hEnv G A s) (hRR : hRep G s S H) (hg : hoI S a 9 4) (hdg : decode cc pc = .ok (.getfield 207, 3)) (kk : W p l e R s m args below meth c H locs cells slots Q (F0 m (pc + 3) ls (.int (hfI S a 4) :: rest))) : W p l e R s m args below meth c H locs cells slots Q (F0 m pc ls (.ref a :: rest)) := by
  obtain ⟨fs, v, hS, hv⟩ := hg
  have e : hfI S a 4 = v := by simp [hfI, hS, hv]
  rw [e] at kk
  exact hh_get hx hb hts hown hE hRR in_X9 (by rfl : hcl[9]? = _) rfl 4 (by decide) rfl rfl (hlk_n hE (nw_of q1150 rfl)) (fun _ h => h) hS hv hdg kk
theorem hg_X6_217 (hx : p.tables.exec = Jvm.exec) (hb : c.code = cc) (hts : ∀ w ∈ lw_all, w.before args s = true) (hown : s.vm.findClass RX6 = some m.cls) (hE : hEnv G A s) (hRR : hRep G s S H) (hg : hoI S a 9 8) (hdg : decode cc pc = .ok (.getfield 217, 3)) (kk : W p l e R s m args below meth c H locs cells slots Q (F0 m (pc + 3) ls (.int (hfI S a 8) :: rest))) : W p l e R s m args below meth c H locs cells slots Q (F0 m pc ls (.ref a :: rest)) := by
  obtain ⟨fs, v, hS, hv⟩ := hg
  have e : hfI S a 8 = v := by simp [hfI, hS, hv]
  rw [e] at kk
  exact hh_get hx hb hts hown hE hRR in_X9 (by rfl : hcl[9]? = _) rfl 8 (by decide) rfl rfl (hlk_n hE (nw_of q1160 rfl)) (fun _ h => h) hS hv hdg kk
theorem hg_X6_233 (hx : p.tables.exec = Jvm.exec) (hb : c.code = cc) (hts : ∀ w ∈ lw_all, w.before args s = true) (hown : s.vm.findClass RX6 = some m.cls) (hE : hEnv G A s) (hRR : hRep G s S H) (hg : hoI S a 9 12) (hdg : decode cc pc = .ok (.getfield 233, 3)) (kk : W p l e R s m args below meth c H locs cells slots Q (F0 m (pc + 3) ls (.int (hfI S a 12) :: rest))) : W p l e R s m args below meth c H locs cells slots Q (F0 m pc ls (.ref a :: rest)) := by
  obtain ⟨fs, v, hS, hv⟩ := hg
  have e : hfI S a 12 = v := by simp [hfI, hS, hv]
  rw [e] at kk
  exact hh_get hx hb hts hown hE hRR in_X9 (by rfl : hcl[9]? = _) rfl 12 (by decide) rfl rfl (hlk_n hE (nw_of q1169 rfl)) (fun _ h => h) hS hv hdg kk
theorem hp_X6_233 {v : Int32} (hx : p.tables.exec = Jvm.exec) (hb : c.code = cc) (hts : ∀ w ∈ lw_all, w.before args s = true) (hown : s.vm.findClass RX6 = some m.cls) (hE : hEnv G A s) (hRR : hRep G s S H) (hDD : hDom A s.heap S_0 S) (hS : va_S A s.heap H locs) (hg : hoP S a 9 12) (hdg : decode cc pc = .ok (.putfield 233, 3)) (kk : ∀ (S1 : hH), S1 = hpF S a 12 (.int v) → ∀ (H : Heap) (locs : List Loc), hRep G s S1 H → hDom A s.heap S_0 S1 → va_S A s.heap H locs → W p l e R s m args below meth c H locs cells slots Q (F0 m (pc + 3) ls rest)) : W p l e R s m args below meth c H locs cells slots Q (F0 m pc ls ((.int v) :: .ref a :: rest)) := by
  exact hh_put hx hb hts hown hE hRR hDD hS in_X9 (by rfl : hcl[9]? = _) rfl tyX9 tyX9_ok nmX9 12 (by decide) rfl rfl (hlk_n hE (nw_of q1169 rfl)) (fun _ h => h) rfl rfl rfl hg hdg kk
theorem hg_X6_236 (hx : p.tables.exec = Jvm.exec) (hb : c.code = cc) (hts : ∀ w ∈ lw_all, w.before args s = true) (hown : s.vm.findClass RX6 = some m.cls) (hE : hEnv G A s) (hRR : hRep G s S H) (hg : hoR S a 9 10) (hdg : decode cc pc = .ok (.getfield 236, 3)) (kk : W p l e R s m args below meth c H locs cells slots Q (F0 m (pc + 3) ls (.ref (hfR S a 10) :: rest))) : W p l e R s m args below meth c H locs cells slots Q (F0 m pc ls (.ref a :: rest)) := by
  obtain ⟨fs, v, hS, hv⟩ := hg
  have e : hfR S a 10 = v := by simp [hfR, hS, hv]
  rw [e] at kk
  exact hh_get hx hb hts hown hE hRR in_X9 (by rfl : hcl[9]? = _) rfl 10 (by decide) rfl rfl (hlk_n hE (nw_of q1165 rfl)) (fun _ h => h) hS hv hdg kk
theorem hg_X6_250 (hx : p.tables.exec = Jvm.exec) (hb : c.code = cc) (hts : ∀ w ∈ lw_all, w.before args s = true) (hown : s.vm.findClass RX6 = some m.cls) (hE : hEnv G A s) (hRR : hRep G s S H) (hg : hoI S a 15 2) (hdg : decode cc pc = .ok (.getfield 250, 3)) (kk : W p l e R s m args below meth c H locs cells slots Q (F0 m (pc + 3) ls (.int (hfI S a 2) :: rest))) : W p l e R s m args below meth c H locs cells slots Q (F0 m pc ls (.ref a :: rest)) := by
  obtain ⟨fs, v, hS, hv⟩ := hg
  have e : hfI S a 2 = v := by simp [hfI, hS, hv]
  rw [e] at kk
  exact hh_get hx hb hts hown hE hRR in_X15 (by rfl : hcl[15]? = _) rfl 2 (by decide) rfl rfl (hlk_n hE (nw_of q1304 rfl)) (fun _ h => h) hS hv hdg kk
theorem hg_X6_253 (hx : p.tables.exec = Jvm.exec) (hb : c.code = cc) (hts : ∀ w ∈ lw_all, w.before args s = true) (hown : s.vm.findClass RX6 = some m.cls) (hE : hEnv G A s) (hRR : hRep G s S H) (hg : hoI S a 15 4) (hdg : decode cc pc = .ok (.getfield 253, 3)) (kk : W p l e R s m args below meth c H locs cells slots Q (F0 m (pc + 3) ls (.int (hfI S a 4) :: rest))) : W p l e R s m args below meth c H locs cells slots Q (F0 m pc ls (.ref a :: rest)) := by
  obtain ⟨fs, v, hS, hv⟩ := hg
  have e : hfI S a 4 = v := by simp [hfI, hS, hv]
  rw [e] at kk
  exact hh_get hx hb hts hown hE hRR in_X15 (by rfl : hcl[15]? = _) rfl 4 (by decide) rfl rfl (hlk_n hE (nw_of q1311 rfl)) (fun _ h => h) hS hv hdg kk
theorem hg_X6_254 (hx : p.tables.exec = Jvm.exec) (hb : c.code = cc) (hts : ∀ w ∈ lw_all, w.before args s = true) (hown : s.vm.findClass RX6 = some m.cls) (hE : hEnv G A s) (hRR : hRep G s S H) (hg : hoI S a 15 5) (hdg : decode cc pc = .ok (.getfield 254, 3)) (kk : W p l e R s m args below meth c H locs cells slots Q (F0 m (pc + 3) ls (.int (hfI S a 5) :: rest))) : W p l e R s m args below meth c H locs cells slots Q (F0 m pc ls (.ref a :: rest)) := by
  obtain ⟨fs, v, hS, hv⟩ := hg
  have e : hfI S a 5 = v := by simp [hfI, hS, hv]
  rw [e] at kk
  exact hh_get hx hb hts hown hE hRR in_X15 (by rfl : hcl[15]? = _) rfl 5 (by decide) rfl rfl (hlk_n hE (nw_of q1314 rfl)) (fun _ h => h) hS hv hdg kk
theorem hp_X6_254 {v : Int32} (hx : p.tables.exec = Jvm.exec) (hb : c.code = cc) (hts : ∀ w ∈ lw_all, w.before args s = true) (hown : s.vm.findClass RX6 = some m.cls) (hE : hEnv G A s) (hRR : hRep G s S H) (hDD : hDom A s.heap S_0 S) (hS : va_S A s.heap H locs) (hg : hoP S a 15 5) (hdg : decode cc pc = .ok (.putfield 254, 3)) (kk : ∀ (S1 : hH), S1 = hpF S a 5 (.int v) → ∀ (H : Heap) (locs : List Loc), hRep G s S1 H → hDom A s.heap S_0 S1 → va_S A s.heap H locs → W p l e R s m args below meth c H locs cells slots Q (F0 m (pc + 3) ls rest)) : W p l e R s m args below meth c H locs cells slots Q (F0 m pc ls ((.int v) :: .ref a :: rest)) := by
  exact hh_put hx hb hts hown hE hRR hDD hS in_X15 (by rfl : hcl[15]? = _) rfl tyX15 tyX15_ok nmX15 5 (by decide) rfl rfl (hlk_n hE (nw_of q1314 rfl)) (fun _ h => h) rfl rfl rfl hg hdg kk
theorem hg_X6_265 (hx : p.tables.exec = Jvm.exec) (hb : c.code = cc) (hts : ∀ w ∈ lw_all, w.before args s = true) (hown : s.vm.findClass RX6 = some m.cls) (hE : hEnv G A s) (hRR : hRep G s S H) (hg : hoI S a 15 1) (hdg : decode cc pc = .ok (.getfield 265, 3)) (kk : W p l e R s m args below meth c H locs cells slots Q (F0 m (pc + 3) ls (.int (hfI S a 1) :: rest))) : W p l e R s m args below meth c H locs cells slots Q (F0 m pc ls (.ref a :: rest)) := by
  obtain ⟨fs, v, hS, hv⟩ := hg
  have e : hfI S a 1 = v := by simp [hfI, hS, hv]
  rw [e] at kk
  exact hh_get hx hb hts hown hE hRR in_X15 (by rfl : hcl[15]? = _) rfl 1 (by decide) rfl rfl (hlk_n hE (nw_of q1301 rfl)) (fun _ h => h) hS hv hdg kk
theorem hg_X6_268 (hx : p.tables.exec = Jvm.exec) (hb : c.code = cc) (hts : ∀ w ∈ lw_all, w.before args s = true) (hown : s.vm.findClass RX6 = some m.cls) (hE : hEnv G A s) (hRR : hRep G s S H) (hg : hoI S a 15 0) (hdg : decode cc pc = .ok (.getfield 268, 3)) (kk : W p l e R s m args below meth c H locs cells slots Q (F0 m (pc + 3) ls (.int (hfI S a 0) :: rest))) : W p l e R s m args below meth c H locs cells slots Q (F0 m pc ls (.ref a :: rest)) := by
  obtain ⟨fs, v, hS, hv⟩ := hg
  have e : hfI S a 0 = v := by simp [hfI, hS, hv]
  rw [e] at kk
  exact hh_get hx hb hts hown hE hRR in_X15 (by rfl : hcl[15]? = _) rfl 0 (by decide) rfl rfl (hlk_n hE (nw_of q1298 rfl)) (fun _ h => h) hS hv hdg kk
theorem hg_X6_278 (hx : p.tables.exec = Jvm.exec) (hb : c.code = cc) (hts : ∀ w ∈ lw_all, w.before args s = true) (hown : s.vm.findClass RX6 = some m.cls) (hE : hEnv G A s) (hRR : hRep G s S H) (hg : hoN S a 15 7) (hdg : decode cc pc = .ok (.getfield 278, 3)) (kk : W p l e R s m args below meth c H locs cells slots Q (F0 m (pc + 3) ls (va_rf (hfN S a 7) :: rest))) : W p l e R s m args below meth c H locs cells slots Q (F0 m pc ls (.ref a :: rest)) := by
  obtain ⟨fs, v, hS, hv⟩ := hg
  have e : hfN S a 7 = v := by cases v <;> simp [hfN, hS, hv, va_rf]
  rw [e] at kk
  exact hh_get hx hb hts hown hE hRR in_X15 (by rfl : hcl[15]? = _) rfl 7 (by decide) rfl rfl (hlk_n hE (nw_of q1318 rfl)) (fun _ h => h) hS hv hdg kk
theorem hp_X6_278 {v : Value} (hx : p.tables.exec = Jvm.exec) (hb : c.code = cc) (hts : ∀ w ∈ lw_all, w.before args s = true) (hown : s.vm.findClass RX6 = some m.cls) (hE : hEnv G A s) (hRR : hRep G s S H) (hDD : hDom A s.heap S_0 S) (hS : va_S A s.heap H locs) (hg : hoP S a 15 7) (hdg : decode cc pc = .ok (.putfield 278, 3)) (kk : ∀ (S1 : hH), S1 = hpF S a 7 v → ∀ (H : Heap) (locs : List Loc), hRep G s S1 H → hDom A s.heap S_0 S1 → va_S A s.heap H locs → W p l e R s m args below meth c H locs cells slots Q (F0 m (pc + 3) ls rest)) (hz : v = .null ∨ ∃ b, v = .ref b := by first | exact Or.inl rfl | exact Or.inr ⟨_, rfl⟩ | exact va_rf_or _) : W p l e R s m args below meth c H locs cells slots Q (F0 m pc ls (v :: .ref a :: rest)) := by
  exact hh_put hx hb hts hown hE hRR hDD hS in_X15 (by rfl : hcl[15]? = _) rfl tyX15 tyX15_ok nmX15 7 (by decide) rfl rfl (hlk_n hE (nw_of q1318 rfl)) (fun _ h => h) rfl (by rcases hz with rfl | ⟨b, rfl⟩ <;> rfl) (by rcases hz with rfl | ⟨b, rfl⟩ <;> rfl) hg hdg kk
theorem hp_X7_7 {v : Value} (hx : p.tables.exec = Jvm.exec) (hb : c.code = cc) (hts : ∀ w ∈ lw_all, w.before args s = true) (hown : s.vm.findClass RX7 = some m.cls) (hE : hEnv G A s) (hRR : hRep G s S H) (hDD : hDom A s.heap S_0 S) (hS : va_S A s.heap H locs) (hmn : meth.name = "<init>") (hg : hoPs S a [8, 11, 12, 13, 14] 0) (hdg : decode cc pc = .ok (.putfield 7, 3)) (kk : ∀ (S1 : hH), S1 = hpF S a 0 v → ∀ (H : Heap) (locs : List Loc), hRep G s S1 H → hDom A s.heap S_0 S1 → va_S A s.heap H locs → W p l e R s m args below meth c H locs cells slots Q (F0 m (pc + 3) ls rest)) (hz : v = .null ∨ ∃ b, v = .ref b := by first | exact Or.inl rfl | exact Or.inr ⟨_, rfl⟩ | exact va_rf_or _) : W p l e R s m args below meth c H locs cells slots Q (F0 m pc ls (v :: .ref a :: rest)) := by
  obtain ⟨ci, hci, hg⟩ := hg
  simp only [List.mem_cons, List.not_mem_nil, or_false] at hci
  rcases hci with rfl | rfl | rfl | rfl | rfl
  · exact hh_putF hx hb hts hown hE hRR hDD hS in_X8 (by rfl : hcl[8]? = _) rfl tyX8 tyX8_ok nmX8 0 (by decide) rfl rfl (hts _ q1122) (fun _ h => h) rfl hmn rfl (by rcases hz with rfl | ⟨b, rfl⟩ <;> rfl) (by rcases hz with rfl | ⟨b, rfl⟩ <;> rfl) hg hdg kk
  · exact hh_putF hx hb hts hown hE hRR hDD hS in_X11 (by rfl : hcl[11]? = _) rfl tyX11 tyX11_ok nmX11 0 (by decide) rfl rfl (hts _ q1122) (fun _ h => h) rfl hmn rfl (by rcases hz with rfl | ⟨b, rfl⟩ <;> rfl) (by rcases hz with rfl | ⟨b, rfl⟩ <;> rfl) hg hdg kk
  · exact hh_putF hx hb hts hown hE hRR hDD hS in_X12 (by rfl : hcl[12]? = _) rfl tyX12 tyX12_ok nmX12 0 (by decide) rfl rfl (hts _ q1122) (fun _ h => h) rfl hmn rfl (by rcases hz with rfl | ⟨b, rfl⟩ <;> rfl) (by rcases hz with rfl | ⟨b, rfl⟩ <;> rfl) hg hdg kk
  · exact hh_putF hx hb hts hown hE hRR hDD hS in_X13 (by rfl : hcl[13]? = _) rfl tyX13 tyX13_ok nmX13 0 (by decide) rfl rfl (hts _ q1122) (fun _ h => h) rfl hmn rfl (by rcases hz with rfl | ⟨b, rfl⟩ <;> rfl) (by rcases hz with rfl | ⟨b, rfl⟩ <;> rfl) hg hdg kk
  · exact hh_putF hx hb hts hown hE hRR hDD hS in_X14 (by rfl : hcl[14]? = _) rfl tyX14 tyX14_ok nmX14 0 (by decide) rfl rfl (hts _ q1122) (fun _ h => h) rfl hmn rfl (by rcases hz with rfl | ⟨b, rfl⟩ <;> rfl) (by rcases hz with rfl | ⟨b, rfl⟩ <;> rfl) hg hdg kk
theorem hg_X8_7 (hx : p.tables.exec = Jvm.exec) (hb : c.code = cc) (hts : ∀ w ∈ lw_all, w.before args s = true) (hown : s.vm.findClass RX8 = some m.cls) (hE : hEnv G A s) (hRR : hRep G s S H) (hg : hoIs S a [8, 14] 1) (hdg : decode cc pc = .ok (.getfield 7, 3)) (kk : W p l e R s m args below meth c H locs cells slots Q (F0 m (pc + 3) ls (.int (hfI S a 1) :: rest))) : W p l e R s m args below meth c H locs cells slots Q (F0 m pc ls (.ref a :: rest)) := by
  obtain ⟨ci, hci, hg⟩ := hg
  simp only [List.mem_cons, List.not_mem_nil, or_false] at hci
  rcases hci with rfl | rfl
  · obtain ⟨fs, v, hS, hv⟩ := hg
    have e : hfI S a 1 = v := by simp [hfI, hS, hv]
    rw [e] at kk
    exact hh_get hx hb hts hown hE hRR in_X8 (by rfl : hcl[8]? = _) rfl 1 (by decide) rfl rfl (hlk_o hts q1120) (fun _ h => h) hS hv hdg kk
  · obtain ⟨fs, v, hS, hv⟩ := hg
    have e : hfI S a 1 = v := by simp [hfI, hS, hv]
    rw [e] at kk
    exact hh_get hx hb hts hown hE hRR in_X14 (by rfl : hcl[14]? = _) rfl 1 (by decide) rfl rfl (hlk_o hts q1120) (fun _ h => h) hS hv hdg kk
theorem hp_X8_7 {v : Int32} (hx : p.tables.exec = Jvm.exec) (hb : c.code = cc) (hts : ∀ w ∈ lw_all, w.before args s = true) (hown : s.vm.findClass RX8 = some m.cls) (hE : hEnv G A s) (hRR : hRep G s S H) (hDD : hDom A s.heap S_0 S) (hS : va_S A s.heap H locs) (hmn : meth.name = "<init>") (hg : hoPs S a [8, 14] 1) (hdg : decode cc pc = .ok (.putfield 7, 3)) (kk : ∀ (S1 : hH), S1 = hpF S a 1 (.int v) → ∀ (H : Heap) (locs : List Loc), hRep G s S1 H → hDom A s.heap S_0 S1 → va_S A s.heap H locs → W p l e R s m args below meth c H locs cells slots Q (F0 m (pc + 3) ls rest)) : W p l e R s m args below meth c H locs cells slots Q (F0 m pc ls ((.int v) :: .ref a :: rest)) := by
  obtain ⟨ci, hci, hg⟩ := hg
  simp only [List.mem_cons, List.not_mem_nil, or_false] at hci
  rcases hci with rfl | rfl
  · exact hh_putF hx hb hts hown hE hRR hDD hS in_X8 (by rfl : hcl[8]? = _) rfl tyX8 tyX8_ok nmX8 1 (by decide) rfl rfl (hts _ q1120) (fun _ h => h) rfl hmn rfl rfl rfl hg hdg kk
  · exact hh_putF hx hb hts hown hE hRR hDD hS in_X14 (by rfl : hcl[14]? = _) rfl tyX14 tyX14_ok nmX14 1 (by decide) rfl rfl (hts _ q1120) (fun _ h => h) rfl hmn rfl rfl rfl hg hdg kk
theorem hg_X8_13 (hx : p.tables.exec = Jvm.exec) (hb : c.code = cc) (hts : ∀ w ∈ lw_all, w.before args s = true) (hown : s.vm.findClass RX8 = some m.cls) (hE : hEnv G A s) (hRR : hRep G s S H) (hg : hoIs S a [8, 14] 2) (hdg : decode cc pc = .ok (.getfield 13, 3)) (kk : W p l e R s m args below meth c H locs cells slots Q (F0 m (pc + 3) ls (.int (hfI S a 2) :: rest))) : W p l e R s m args below meth c H locs cells slots Q (F0 m pc ls (.ref a :: rest)) := by
  obtain ⟨ci, hci, hg⟩ := hg
  simp only [List.mem_cons, List.not_mem_nil, or_false] at hci
  rcases hci with rfl | rfl
  · obtain ⟨fs, v, hS, hv⟩ := hg
    have e : hfI S a 2 = v := by simp [hfI, hS, hv]
    rw [e] at kk
    exact hh_get hx hb hts hown hE hRR in_X8 (by rfl : hcl[8]? = _) rfl 2 (by decide) rfl rfl (hlk_o hts q1121) (fun _ h => h) hS hv hdg kk
  · obtain ⟨fs, v, hS, hv⟩ := hg
    have e : hfI S a 2 = v := by simp [hfI, hS, hv]
    rw [e] at kk
    exact hh_get hx hb hts hown hE hRR in_X14 (by rfl : hcl[14]? = _) rfl 2 (by decide) rfl rfl (hlk_o hts q1121) (fun _ h => h) hS hv hdg kk
theorem hp_X8_13 {v : Int32} (hx : p.tables.exec = Jvm.exec) (hb : c.code = cc) (hts : ∀ w ∈ lw_all, w.before args s = true) (hown : s.vm.findClass RX8 = some m.cls) (hE : hEnv G A s) (hRR : hRep G s S H) (hDD : hDom A s.heap S_0 S) (hS : va_S A s.heap H locs) (hmn : meth.name = "<init>") (hg : hoPs S a [8, 14] 2) (hdg : decode cc pc = .ok (.putfield 13, 3)) (kk : ∀ (S1 : hH), S1 = hpF S a 2 (.int v) → ∀ (H : Heap) (locs : List Loc), hRep G s S1 H → hDom A s.heap S_0 S1 → va_S A s.heap H locs → W p l e R s m args below meth c H locs cells slots Q (F0 m (pc + 3) ls rest)) : W p l e R s m args below meth c H locs cells slots Q (F0 m pc ls ((.int v) :: .ref a :: rest)) := by
  obtain ⟨ci, hci, hg⟩ := hg
  simp only [List.mem_cons, List.not_mem_nil, or_false] at hci
  rcases hci with rfl | rfl
  · exact hh_putF hx hb hts hown hE hRR hDD hS in_X8 (by rfl : hcl[8]? = _) rfl tyX8 tyX8_ok nmX8 2 (by decide) rfl rfl (hts _ q1121) (fun _ h => h) rfl hmn rfl rfl rfl hg hdg kk
  · exact hh_putF hx hb hts hown hE hRR hDD hS in_X14 (by rfl : hcl[14]? = _) rfl tyX14 tyX14_ok nmX14 2 (by decide) rfl rfl (hts _ q1121) (fun _ h => h) rfl hmn rfl rfl rfl hg hdg kk
theorem hp_X9_9 {v : Value} (hx : p.tables.exec = Jvm.exec) (hb : c.code = cc) (hts : ∀ w ∈ lw_all, w.before args s = true) (hown : s.vm.findClass RX9 = some m.cls) (hE : hEnv G A s) (hRR : hRep G s S H) (hDD : hDom A s.heap S_0 S) (hS : va_S A s.heap H locs) (hmn : meth.name = "<init>") (hg : hoP S a 9 9) (hdg : decode cc pc = .ok (.putfield 9, 3)) (kk : ∀ (S1 : hH), S1 = hpF S a 9 v → ∀ (H : Heap) (locs : List Loc), hRep G s S1 H → hDom A s.heap S_0 S1 → va_S A s.heap H locs → W p l e R s m args below meth c H locs cells slots Q (F0 m (pc + 3) ls rest)) (hz : v = .null ∨ ∃ b, v = .ref b := by first | exact Or.inl rfl | exact Or.inr ⟨_, rfl⟩ | exact va_rf_or _) : W p l e R s m args below meth c H locs cells slots Q (F0 m pc ls (v :: .ref a :: rest)) := by
  exact hh_putF hx hb hts hown hE hRR hDD hS in_X9 (by rfl : hcl[9]? = _) rfl tyX9 tyX9_ok nmX9 9 (by decide) rfl rfl (hts _ q1161) (fun _ h => h) rfl hmn rfl (by rcases hz with rfl | ⟨b, rfl⟩ <;> rfl) (by rcases hz with rfl | ⟨b, rfl⟩ <;> rfl) hg hdg kk
theorem hp_X9_18 {v : Value} (hx : p.tables.exec = Jvm.exec) (hb : c.code = cc) (hts : ∀ w ∈ lw_all, w.before args s = true) (hown : s.vm.findClass RX9 = some m.cls) (hE : hEnv G A s) (hRR : hRep G s S H) (hDD : hDom A s.heap S_0 S) (hS : va_S A s.heap H locs) (hmn : meth.name = "<init>") (hg : hoP S a 9 10) (hdg : decode cc pc = .ok (.putfield 18, 3)) (kk : ∀ (S1 : hH), S1 = hpF S a 10 v → ∀ (H : Heap) (locs : List Loc), hRep G s S1 H → hDom A s.heap S_0 S1 → va_S A s.heap H locs → W p l e R s m args below meth c H locs cells slots Q (F0 m (pc + 3) ls rest)) (hz : v = .null ∨ ∃ b, v = .ref b := by first | exact Or.inl rfl | exact Or.inr ⟨_, rfl⟩ | exact va_rf_or _) : W p l e R s m args below meth c H locs cells slots Q (F0 m pc ls (v :: .ref a :: rest)) := by
  exact hh_putF hx hb hts hown hE hRR hDD hS in_X9 (by rfl : hcl[9]? = _) rfl tyX9 tyX9_ok nmX9 10 (by decide) rfl rfl (hts _ q1164) (fun _ h => h) rfl hmn rfl (by rcases hz with rfl | ⟨b, rfl⟩ <;> rfl) (by rcases hz with rfl | ⟨b, rfl⟩ <;> rfl) hg hdg kk
theorem hg_X9_22 (hx : p.tables.exec = Jvm.exec) (hb : c.code = cc) (hts : ∀ w ∈ lw_all, w.before args s = true) (hown : s.vm.findClass RX9 = some m.cls) (hE : hEnv G A s) (hRR : hRep G s S H) (hg : hoN S a 9 0) (hdg : decode cc pc = .ok (.getfield 22, 3)) (kk : W p l e R s m args below meth c H locs cells slots Q (F0 m (pc + 3) ls (va_rf (hfN S a 0) :: rest))) : W p l e R s m args below meth c H locs cells slots Q (F0 m pc ls (.ref a :: rest)) := by
  obtain ⟨fs, v, hS, hv⟩ := hg
  have e : hfN S a 0 = v := by cases v <;> simp [hfN, hS, hv, va_rf]
  rw [e] at kk
  exact hh_get hx hb hts hown hE hRR in_X9 (by rfl : hcl[9]? = _) rfl 0 (by decide) rfl rfl (hlk_o hts q1142) (fun _ h => h) hS hv hdg kk
theorem hp_X9_22 {v : Value} (hx : p.tables.exec = Jvm.exec) (hb : c.code = cc) (hts : ∀ w ∈ lw_all, w.before args s = true) (hown : s.vm.findClass RX9 = some m.cls) (hE : hEnv G A s) (hRR : hRep G s S H) (hDD : hDom A s.heap S_0 S) (hS : va_S A s.heap H locs) (hmn : meth.name = "<init>") (hg : hoP S a 9 0) (hdg : decode cc pc = .ok (.putfield 22, 3)) (kk : ∀ (S1 : hH), S1 = hpF S a 0 v → ∀ (H : Heap) (locs : List Loc), hRep G s S1 H → hDom A s.heap S_0 S1 → va_S A s.heap H locs → W p l e R s m args below meth c H locs cells slots Q (F0 m (pc + 3) ls rest)) (hz : v = .null ∨ ∃ b, v = .ref b := by first | exact Or.inl rfl | exact Or.inr ⟨_, rfl⟩ | exact va_rf_or _) : W p l e R s m args below meth c H locs cells slots Q (F0 m pc ls (v :: .ref a :: rest)) := by
  exact hh_putF hx hb hts hown hE hRR hDD hS in_X9 (by rfl : hcl[9]? = _) rfl tyX9 tyX9_ok nmX9 0 (by decide) rfl rfl (hts _ q1142) (fun _ h => h) rfl hmn rfl (by rcases hz with rfl | ⟨b, rfl⟩ <;> rfl) (by rcases hz with rfl | ⟨b, rfl⟩ <;> rfl) hg hdg kk
theorem hg_X9_26 (hx : p.tables.exec = Jvm.exec) (hb : c.code = cc) (hts : ∀ w ∈ lw_all, w.before args s = true) (hown : s.vm.findClass RX9 = some m.cls) (hE : hEnv G A s) (hRR : hRep G s S H) (hg : hoN S a 9 1) (hdg : decode cc pc = .ok (.getfield 26, 3)) (kk : W p l e R s m args below meth c H locs cells slots Q (F0 m (pc + 3) ls (va_rf (hfN S a 1) :: rest))) : W p l e R s m args below meth c H locs cells slots Q (F0 m pc ls (.ref a :: rest)) := by
  obtain ⟨fs, v, hS, hv⟩ := hg
  have e : hfN S a 1 = v := by cases v <;> simp [hfN, hS, hv, va_rf]
  rw [e] at kk
  exact hh_get hx hb hts hown hE hRR in_X9 (by rfl : hcl[9]? = _) rfl 1 (by decide) rfl rfl (hlk_o hts q1144) (fun _ h => h) hS hv hdg kk
theorem hp_X9_26 {v : Value} (hx : p.tables.exec = Jvm.exec) (hb : c.code = cc) (hts : ∀ w ∈ lw_all, w.before args s = true) (hown : s.vm.findClass RX9 = some m.cls) (hE : hEnv G A s) (hRR : hRep G s S H) (hDD : hDom A s.heap S_0 S) (hS : va_S A s.heap H locs) (hmn : meth.name = "<init>") (hg : hoP S a 9 1) (hdg : decode cc pc = .ok (.putfield 26, 3)) (kk : ∀ (S1 : hH), S1 = hpF S a 1 v → ∀ (H : Heap) (locs : List Loc), hRep G s S1 H → hDom A s.heap S_0 S1 → va_S A s.heap H locs → W p l e R s m args below meth c H locs cells slots Q (F0 m (pc + 3) ls rest)) (hz : v = .null ∨ ∃ b, v = .ref b := by first | exact Or.inl rfl | exact Or.inr ⟨_, rfl⟩ | exact va_rf_or _) : W p l e R s m args below meth c H locs cells slots Q (F0 m pc ls (v :: .ref a :: rest)) := by
  exact hh_putF hx hb hts hown hE hRR hDD hS in_X9 (by rfl : hcl[9]? = _) rfl tyX9 tyX9_ok nmX9 1 (by decide) rfl rfl (hts _ q1144) (fun _ h => h) rfl hmn rfl (by rcases hz with rfl | ⟨b, rfl⟩ <;> rfl) (by rcases hz with rfl | ⟨b, rfl⟩ <;> rfl) hg hdg kk
theorem hg_X9_30 (hx : p.tables.exec = Jvm.exec) (hb : c.code = cc) (hts : ∀ w ∈ lw_all, w.before args s = true) (hown : s.vm.findClass RX9 = some m.cls) (hE : hEnv G A s) (hRR : hRep G s S H) (hg : hoI S a 9 2) (hdg : decode cc pc = .ok (.getfield 30, 3)) (kk : W p l e R s m args below meth c H locs cells slots Q (F0 m (pc + 3) ls (.int (hfI S a 2) :: rest))) : W p l e R s m args below meth c H locs cells slots Q (F0 m pc ls (.ref a :: rest)) := by
  obtain ⟨fs, v, hS, hv⟩ := hg
  have e : hfI S a 2 = v := by simp [hfI, hS, hv]
  rw [e] at kk
  exact hh_get hx hb hts hown hE hRR in_X9 (by rfl : hcl[9]? = _) rfl 2 (by decide) rfl rfl (hlk_o hts q1145) (fun _ h => h) hS hv hdg kk
theorem hp_X9_30 {v : Int32} (hx : p.tables.exec = Jvm.exec) (hb : c.code = cc) (hts : ∀ w ∈ lw_all, w.before args s = true) (hown : s.vm.findClass RX9 = some m.cls) (hE : hEnv G A s) (hRR : hRep G s S H) (hDD : hDom A s.heap S_0 S) (hS : va_S A s.heap H locs) (hmn : meth.name = "<init>") (hg : hoP S a 9 2) (hdg : decode cc pc = .ok (.putfield 30, 3)) (kk : ∀ (S1 : hH), S1 = hpF S a 2 (.int v) → ∀ (H : Heap) (locs : List Loc), hRep G s S1 H → hDom A s.heap S_0 S1 → va_S A s.heap H locs → W p l e R s m args below meth c H locs cells slots Q (F0 m (pc + 3) ls rest)) : W p l e R s m args below meth c H locs cells slots Q (F0 m pc ls ((.int v) :: .ref a :: rest)) := by
  exact hh_putF hx hb hts hown hE hRR hDD hS in_X9 (by rfl : hcl[9]? = _) rfl tyX9 tyX9_ok nmX9 2 (by decide) rfl rfl (hts _ q1145) (fun _ h => h) rfl hmn rfl rfl rfl hg hdg kk
theorem hp_X9_34 {v : Value} (hx : p.tables.exec = Jvm.exec) (hb : c.code = cc) (hts : ∀ w ∈ lw_all, w.before args s = true) (hown : s.vm.findClass RX9 = some m.cls) (hE : hEnv G A s) (hRR : hRep G s S H) (hDD : hDom A s.heap S_0 S) (hS : va_S A s.heap H locs) (hmn : meth.name = "<init>") (hg : hoP S a 9 6) (hdg : decode cc pc = .ok (.putfield 34, 3)) (kk : ∀ (S1 : hH), S1 = hpF S a 6 v → ∀ (H : Heap) (locs : List Loc), hRep G s S1 H → hDom A s.heap S_0 S1 → va_S A s.heap H locs → W p l e R s m args below meth c H locs cells slots Q (F0 m (pc + 3) ls rest)) (hz : v = .null ∨ ∃ b, v = .ref b := by first | exact Or.inl rfl | exact Or.inr ⟨_, rfl⟩ | exact va_rf_or _) : W p l e R s m args below meth c H locs cells slots Q (F0 m pc ls (v :: .ref a :: rest)) := by
  exact hh_putF hx hb hts hown hE hRR hDD hS in_X9 (by rfl : hcl[9]? = _) rfl tyX9 tyX9_ok nmX9 6 (by decide) rfl rfl (hts _ q1154) (fun _ h => h) rfl hmn rfl (by rcases hz with rfl | ⟨b, rfl⟩ <;> rfl) (by rcases hz with rfl | ⟨b, rfl⟩ <;> rfl) hg hdg kk
theorem hp_X9_38 {v : Int32} (hx : p.tables.exec = Jvm.exec) (hb : c.code = cc) (hts : ∀ w ∈ lw_all, w.before args s = true) (hown : s.vm.findClass RX9 = some m.cls) (hE : hEnv G A s) (hRR : hRep G s S H) (hDD : hDom A s.heap S_0 S) (hS : va_S A s.heap H locs) (hmn : meth.name = "<init>") (hg : hoP S a 9 4) (hdg : decode cc pc = .ok (.putfield 38, 3)) (kk : ∀ (S1 : hH), S1 = hpF S a 4 (.int v) → ∀ (H : Heap) (locs : List Loc), hRep G s S1 H → hDom A s.heap S_0 S1 → va_S A s.heap H locs → W p l e R s m args below meth c H locs cells slots Q (F0 m (pc + 3) ls rest)) : W p l e R s m args below meth c H locs cells slots Q (F0 m pc ls ((.int v) :: .ref a :: rest)) := by
  exact hh_putF hx hb hts hown hE hRR hDD hS in_X9 (by rfl : hcl[9]? = _) rfl tyX9 tyX9_ok nmX9 4 (by decide) rfl rfl (hts _ q1149) (fun _ h => h) rfl hmn rfl rfl rfl hg hdg kk
theorem hp_X9_41 {v : Int32} (hx : p.tables.exec = Jvm.exec) (hb : c.code = cc) (hts : ∀ w ∈ lw_all, w.before args s = true) (hown : s.vm.findClass RX9 = some m.cls) (hE : hEnv G A s) (hRR : hRep G s S H) (hDD : hDom A s.heap S_0 S) (hS : va_S A s.heap H locs) (hmn : meth.name = "<init>") (hg : hoP S a 9 5) (hdg : decode cc pc = .ok (.putfield 41, 3)) (kk : ∀ (S1 : hH), S1 = hpF S a 5 (.int v) → ∀ (H : Heap) (locs : List Loc), hRep G s S1 H → hDom A s.heap S_0 S1 → va_S A s.heap H locs → W p l e R s m args below meth c H locs cells slots Q (F0 m (pc + 3) ls rest)) : W p l e R s m args below meth c H locs cells slots Q (F0 m pc ls ((.int v) :: .ref a :: rest)) := by
  exact hh_putF hx hb hts hown hE hRR hDD hS in_X9 (by rfl : hcl[9]? = _) rfl tyX9 tyX9_ok nmX9 5 (by decide) rfl rfl (hts _ q1152) (fun _ h => h) rfl hmn rfl rfl rfl hg hdg kk
theorem hg_X9_44 (hx : p.tables.exec = Jvm.exec) (hb : c.code = cc) (hts : ∀ w ∈ lw_all, w.before args s = true) (hown : s.vm.findClass RX9 = some m.cls) (hE : hEnv G A s) (hRR : hRep G s S H) (hg : hoI S a 9 3) (hdg : decode cc pc = .ok (.getfield 44, 3)) (kk : W p l e R s m args below meth c H locs cells slots Q (F0 m (pc + 3) ls (.int (hfI S a 3) :: rest))) : W p l e R s m args below meth c H locs cells slots Q (F0 m pc ls (.ref a :: rest)) := by
  obtain ⟨fs, v, hS, hv⟩ := hg
  have e : hfI S a 3 = v := by simp [hfI, hS, hv]
  rw [e] at kk
  exact hh_get hx hb hts hown hE hRR in_X9 (by rfl : hcl[9]? = _) rfl 3 (by decide) rfl rfl (hlk_o hts q1146) (fun _ h => h) hS hv hdg kk
theorem hp_X9_44 {v : Int32} (hx : p.tables.exec = Jvm.exec) (hb : c.code = cc) (hts : ∀ w ∈ lw_all, w.before args s = true) (hown : s.vm.findClass RX9 = some m.cls) (hE : hEnv G A s) (hRR : hRep G s S H) (hDD : hDom A s.heap S_0 S) (hS : va_S A s.heap H locs) (hmn : meth.name = "<init>") (hg : hoP S a 9 3) (hdg : decode cc pc = .ok (.putfield 44, 3)) (kk : ∀ (S1 : hH), S1 = hpF S a 3 (.int v) → ∀ (H : Heap) (locs : List Loc), hRep G s S1 H → hDom A s.heap S_0 S1 → va_S A s.heap H locs → W p l e R s m args below meth c H locs cells slots Q (F0 m (pc + 3) ls rest)) : W p l e R s m args below meth c H locs cells slots Q (F0 m pc ls ((.int v) :: .ref a :: rest)) := by
  exact hh_putF hx hb hts hown hE hRR hDD hS in_X9 (by rfl : hcl[9]? = _) rfl tyX9 tyX9_ok nmX9 3 (by decide) rfl rfl (hts _ q1146) (fun _ h => h) rfl hmn rfl rfl rfl hg hdg kk
theorem hg_X9_47 (hx : p.tables.exec = Jvm.exec) (hb : c.code = cc) (hts : ∀ w ∈ lw_all, w.before args s = true) (hown : s.vm.findClass RX9 = some m.cls) (hE : hEnv G A s) (hRR : hRep G s S H) (hg : hoI S a 9 7) (hdg : decode cc pc = .ok (.getfield 47, 3)) (kk : W p l e R s m args below meth c H locs cells slots Q (F0 m (pc + 3) ls (.int (hfI S a 7) :: rest))) : W p l e R s m args below meth c H locs cells slots Q (F0 m pc ls (.ref a :: rest)) := by
  obtain ⟨fs, v, hS, hv⟩ := hg
  have e : hfI S a 7 = v := by simp [hfI, hS, hv]
  rw [e] at kk
  exact hh_get hx hb hts hown hE hRR in_X9 (by rfl : hcl[9]? = _) rfl 7 (by decide) rfl rfl (hlk_o hts q1157) (fun _ h => h) hS hv hdg kk
theorem hp_X9_47 {v : Int32} (hx : p.tables.exec = Jvm.exec) (hb : c.code = cc) (hts : ∀ w ∈ lw_all, w.before args s = true) (hown : s.vm.findClass RX9 = some m.cls) (hE : hEnv G A s) (hRR : hRep G s S H) (hDD : hDom A s.heap S_0 S) (hS : va_S A s.heap H locs) (hmn : meth.name = "<init>") (hg : hoP S a 9 7) (hdg : decode cc pc = .ok (.putfield 47, 3)) (kk : ∀ (S1 : hH), S1 = hpF S a 7 (.int v) → ∀ (H : Heap) (locs : List Loc), hRep G s S1 H → hDom A s.heap S_0 S1 → va_S A s.heap H locs → W p l e R s m args below meth c H locs cells slots Q (F0 m (pc + 3) ls rest)) : W p l e R s m args below meth c H locs cells slots Q (F0 m pc ls ((.int v) :: .ref a :: rest)) := by
  exact hh_putF hx hb hts hown hE hRR hDD hS in_X9 (by rfl : hcl[9]? = _) rfl tyX9 tyX9_ok nmX9 7 (by decide) rfl rfl (hts _ q1157) (fun _ h => h) rfl hmn rfl rfl rfl hg hdg kk
theorem hg_X9_50 (hx : p.tables.exec = Jvm.exec) (hb : c.code = cc) (hts : ∀ w ∈ lw_all, w.before args s = true) (hown : s.vm.findClass RX9 = some m.cls) (hE : hEnv G A s) (hRR : hRep G s S H) (hg : hoI S a 15 3) (hdg : decode cc pc = .ok (.getfield 50, 3)) (kk : W p l e R s m args below meth c H locs cells slots Q (F0 m (pc + 3) ls (.int (hfI S a 3) :: rest))) : W p l e R s m args below meth c H locs cells slots Q (F0 m pc ls (.ref a :: rest)) := by
  obtain ⟨fs, v, hS, hv⟩ := hg
  have e : hfI S a 3 = v := by simp [hfI, hS, hv]
  rw [e] at kk
  exact hh_get hx hb hts hown hE hRR in_X15 (by rfl : hcl[15]? = _) rfl 3 (by decide) rfl rfl (hlk_n hE (nw_of q1307 rfl)) (fun _ h => h) hS hv hdg kk
theorem hg_X9_55 (hx : p.tables.exec = Jvm.exec) (hb : c.code = cc) (hts : ∀ w ∈ lw_all, w.before args s = true) (hown : s.vm.findClass RX9 = some m.cls) (hE : hEnv G A s) (hRR : hRep G s S H) (hg : hoI S a 15 5) (hdg : decode cc pc = .ok (.getfield 55, 3)) (kk : W p l e R s m args below meth c H locs cells slots Q (F0 m (pc + 3) ls (.int (hfI S a 5) :: rest))) : W p l e R s m args below meth c H locs cells slots Q (F0 m pc ls (.ref a :: rest)) := by
  obtain ⟨fs, v, hS, hv⟩ := hg
  have e : hfI S a 5 = v := by simp [hfI, hS, hv]
  rw [e] at kk
  exact hh_get hx hb hts hown hE hRR in_X15 (by rfl : hcl[15]? = _) rfl 5 (by decide) rfl rfl (hlk_n hE (nw_of q1313 rfl)) (fun _ h => h) hS hv hdg kk
theorem hp_X9_58 {v : Int32} (hx : p.tables.exec = Jvm.exec) (hb : c.code = cc) (hts : ∀ w ∈ lw_all, w.before args s = true) (hown : s.vm.findClass RX9 = some m.cls) (hE : hEnv G A s) (hRR : hRep G s S H) (hDD : hDom A s.heap S_0 S) (hS : va_S A s.heap H locs) (hmn : meth.name = "<init>") (hg : hoP S a 9 8) (hdg : decode cc pc = .ok (.putfield 58, 3)) (kk : ∀ (S1 : hH), S1 = hpF S a 8 (.int v) → ∀ (H : Heap) (locs : List Loc), hRep G s S1 H → hDom A s.heap S_0 S1 → va_S A s.heap H locs → W p l e R s m args below meth c H locs cells slots Q (F0 m (pc + 3) ls rest)) : W p l e R s m args below meth c H locs cells slots Q (F0 m pc ls ((.int v) :: .ref a :: rest)) := by
  exact hh_putF hx hb hts hown hE hRR hDD hS in_X9 (by rfl : hcl[9]? = _) rfl tyX9 tyX9_ok nmX9 8 (by decide) rfl rfl (hts _ q1159) (fun _ h => h) rfl hmn rfl rfl rfl hg hdg kk
end HFLD
