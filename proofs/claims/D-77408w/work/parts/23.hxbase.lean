/-! exceptions over the map -/
def hXB (G : hG) (S : hH) (sz : Nat) : String → Addr → (String × Addr × hH) → State → Prop := fun E q u t => u.1 = E ∧ u.2.1 = q ∧ hB G S sz u.2.2 t
def hXq (QX : String → Nat → hH → Prop) : (String × Addr × hH) → Prop := fun u => QX u.1 u.2.1 u.2.2
def hXC (G : hG) (S : hH) (sz : Nat) (QX : String → Nat → hH → Prop) : String → Addr → State → State → Prop := vx_X (hXq QX) (hXB G S sz) (hAo S sz)
def hXetI (l : Launch) (G : hG) (y : MethodName) (ws : List Cond) (fr lo mc ms : Nat) (av : List Value) (S : hH) (Q : Int32 → hH → Prop) (QX : String → Nat → hH → Prop) : Prop := ∀ sz, vx_Met l y ws (hRm fr lo mc ms) (hPc G av S sz) (va_Qi Q (hB G S sz) (hAo S sz)) (hXC G S sz QX) mc ms (hAo S sz)
def hXetL (l : Launch) (G : hG) (y : MethodName) (ws : List Cond) (fr lo mc ms : Nat) (av : List Value) (S : hH) (Q : Int64 → hH → Prop) (QX : String → Nat → hH → Prop) : Prop := ∀ sz, vx_Met l y ws (hRm fr lo mc ms) (hPc G av S sz) (va_Ql Q (hB G S sz) (hAo S sz)) (hXC G S sz QX) mc ms (hAo S sz)
def hXetV (l : Launch) (G : hG) (y : MethodName) (ws : List Cond) (fr lo mc ms : Nat) (av : List Value) (S : hH) (Q : hH → Prop) (QX : String → Nat → hH → Prop) : Prop := ∀ sz, vx_Met l y ws (hRm fr lo mc ms) (hPc G av S sz) (va_Qv Q (hB G S sz) (hAo S sz)) (hXC G S sz QX) mc ms (hAo S sz)
def hXetN (l : Launch) (G : hG) (y : MethodName) (ws : List Cond) (fr lo mc ms : Nat) (av : List Value) (S : hH) (Q : Option Nat → hH → Prop) (QX : String → Nat → hH → Prop) : Prop := ∀ sz, vx_Met l y ws (hRm fr lo mc ms) (hPc G av S sz) (va_Qq Q (hB G S sz) (hAo S sz)) (hXC G S sz QX) mc ms (hAo S sz)
section HXROWS
variable {p : Program} {l : Launch} {e : Env} {R : Room} {s : State} {m : MethodId} {args : Array Value} {below : List Frame} {meth : Method} {c : Code} {H : Heap} {locs : List Loc} {cells slots : Nat} {Q : State → Prop}
variable {cc : ByteArray} {pc nL : Nat} {ls : Array Slot} {rest : List Value} {G : hG} {A : Nat → Prop} {S S0 : hH} {index a : Nat} {own : String}
theorem hgrow0 (hR : hRep G s S H) {H1 : Heap} (hq : ∀ q : Nat, q < H.size → H1[q]? = H[q]?) : hRep G s S H1 := fun a x hx => (hR a x hx).kept (hq a (hR.lt hx))
theorem hat_use (hts : ∀ w ∈ lw_all, w.before args s = true) (hE : hEnv G A s) {L : List Cond} (h : ∀ w ∈ L, w ∈ lw_all ∨ w ∈ hNW) (hk : ∀ w ∈ L, w.onTables = true ∨ w = .arrayClass .byte) : ∀ w ∈ L, w.before args s = true := by
  intro w hw
  rcases h w hw with z | z
  · exact hts _ z
  · rcases hk w hw with y | y
    · exact va_Nw.use y (hE.2.1 _ z)
    · have := nw_k z
      rw [y] at this
      cases this
/-- the machine throws cls -/
theorem hx_vm (hx : p.tables.exec = Jvm.exec) (hl : l.stackTraces = false) (hts : ∀ w ∈ lw_all, w.before args s = true) (hE : hEnv G A s) (hR : hRep G s S H) (hS0 : va_S A s.heap H locs) {cls text : String} {names : List String}
    (hcls : Bundle.fit cls = true) (hnames : ∀ n ∈ names, Bundle.fit n = true) (hsoe : (cls == "java/lang/StackOverflowError") = false) (hoom : (cls == "java/lang/OutOfMemoryError") = false)
    (hat : ∀ w ∈ vx_atM cls names, w ∈ lw_all ∨ w ∈ hNW) (hat2 : ∀ w ∈ vx_atM cls names, w.onTables = true ∨ w = .arrayClass .byte) (hgood : ∀ w ∈ vx_atM cls names, vx_ot w = true) (hsize : ls.size = c.maxLocals)
    (htext : (text == notModelled) = false) (hnb : (stringBytes (stringToUtf16 text)).size ≤ 212)
    (hRframes : names.length + 4 < R.frames) (hRlocals : (rest.map fun v => v.category).sum + 10240 ≤ R.locals) (hshort : 13 * names.length + 55 ≤ 10240) (hRcells : cells + 3 ≤ R.cells) (hRslots : slots + 222 ≤ R.slots) (hlocks : meth.locks = false)
    (k : ∀ (H1 : Heap) (q9 : Addr) (ce : Cell), hRep G s S H1 → va_S A s.heap H1 locs → H1[q9]? = some ce → ce.vm = .none → s.vm.findClass cls = some ce.cls → vx_W p l e R s m args below meth c H1 locs (cells + 3) (slots + 222) Q (F0 m pc ls rest) q9) :
    vx_Note p l e R s m args below meth c H locs cells slots Q (F0 m pc ls rest) cls text :=
  vx_vm hx hl (names := names) (nb := 212) hcls hnames hsoe hoom (hat_use hts hE hat hat2) hgood hE.2.2.2.2.2.2.2.2.2.1 hE.2.2.2.2.2.2.2.2.2.2.1 hS0 hsize htext hnb (by omega) hRframes hRlocals hshort hRcells hRslots hlocks
    (fun H1 q9 ce h1 h2 h3 h4 h5 h6 => k H1 q9 ce (hgrow0 hR h2) h3 h4 h5 h6)
theorem hx_npe (hx : p.tables.exec = Jvm.exec) (hl : l.stackTraces = false) (hts : ∀ w ∈ lw_all, w.before args s = true) (hE : hEnv G A s) (hR : hRep G s S H) (hS0 : va_S A s.heap H locs)
    (hat : ∀ w ∈ vx_atN 8, w ∈ lw_all ∨ w ∈ hNW) (hat2 : ∀ w ∈ vx_atN 8, w.onTables = true ∨ w = .arrayClass .byte) (hgood : ∀ w ∈ vx_atN 8, vx_ot w = true) (hsize : ls.size = c.maxLocals)
    (hRframes : 7 < R.frames) (hRlocals : (rest.map fun v => v.category).sum + 10240 ≤ R.locals) (hRcells : cells + 3 ≤ R.cells) (hRslots : slots + 222 ≤ R.slots) (hlocks : meth.locks = false)
    (k : ∀ (H1 : Heap) (q9 : Addr) (ce : Cell), hRep G s S H1 → va_S A s.heap H1 locs → H1[q9]? = some ce → ce.vm = .none → s.vm.findClass "java/lang/NullPointerException" = some ce.cls → vx_W p l e R s m args below meth c H1 locs (cells + 3) (slots + 222) Q (F0 m pc ls rest) q9) :
    vx_NoteN p l e R s m args below meth c H locs cells slots Q (F0 m pc ls rest) :=
  vx_npe hx hl (nb := 8) (hat_use hts hE hat hat2) hgood hE.2.2.2.2.2.2.2.2.2.1 hE.2.2.2.2.2.2.2.2.2.2.1 hS0 hsize hRframes hRlocals (by omega) (by omega) hlocks
    (fun H1 q9 ce h1 h2 h3 h4 h5 h6 => vx_widen (by omega) (by omega) (k H1 q9 ce (hgrow0 hR h2) h3 h4 h5 h6))
/-- an int read beside its row -/
theorem hx_iald (hx : p.tables.exec = Jvm.exec) (hb : c.code = cc) (hE : hEnv G A s) (hR : hRep G s S H) {n : Nat} {f : Nat → Int32} (hS : S a = some (.inl (0, (n, .inl f)))) {i : Int32} (hout : ¬ vp_in i n) (hdg : decode cc pc = .ok (.iaload, 1))
    (k : ∀ tx : String, tx = (toString "Index " ++ toString i ++ toString " out of bounds for length " ++ toString n : String) → vx_Note p l e R s m args below meth c H locs cells slots Q (F0 m pc ls rest) "java/lang/ArrayIndexOutOfBoundsException" tx) : W p l e R s m args below meth c H locs cells slots Q (F0 m pc ls (.int i :: .ref a :: rest)) :=
  vx_ialdZ (D := G.1) (cl := hcl) (tys := htys G) (ws := [(a, .inl (G.2.1 0, n, .inl f))]) hx hb hE.1 (hh_P1 (x := .inl (0, (n, .inl f))) hR hS rfl) 0 0 rfl rfl hout hdg k
theorem hx_iast (hx : p.tables.exec = Jvm.exec) (hb : c.code = cc) (hE : hEnv G A s) (hR : hRep G s S H) {n : Nat} {f : Nat → Int32} (hS : S a = some (.inl (0, (n, .inl f)))) {i x : Int32} (hout : ¬ vp_in i n) (hdg : decode cc pc = .ok (.iastore, 1))
    (k : ∀ tx : String, tx = (toString "Index " ++ toString i ++ toString " out of bounds for length " ++ toString n : String) → vx_Note p l e R s m args below meth c H locs cells slots Q (F0 m pc ls rest) "java/lang/ArrayIndexOutOfBoundsException" tx) : W p l e R s m args below meth c H locs cells slots Q (F0 m pc ls (.int x :: .int i :: .ref a :: rest)) :=
  vx_iastZ (D := G.1) (cl := hcl) (tys := htys G) (ws := [(a, .inl (G.2.1 0, n, .inl f))]) hx hb hE.1 (hh_P1 (x := .inl (0, (n, .inl f))) hR hS rfl) 0 0 rfl rfl hout hdg k
theorem hx_bald (hx : p.tables.exec = Jvm.exec) (hb : c.code = cc) (hE : hEnv G A s) (hR : hRep G s S H) {n : Nat} {f : Nat → Int32} (hS : S a = some (.inl (2, (n, .inl f)))) {i : Int32} (hout : ¬ vp_in i n) (hdg : decode cc pc = .ok (.baload, 1))
    (k : ∀ tx : String, tx = (toString "Index " ++ toString i ++ toString " out of bounds for length " ++ toString n : String) → vx_Note p l e R s m args below meth c H locs cells slots Q (F0 m pc ls rest) "java/lang/ArrayIndexOutOfBoundsException" tx) : W p l e R s m args below meth c H locs cells slots Q (F0 m pc ls (.int i :: .ref a :: rest)) :=
  vx_baldZ (D := G.1) (cl := hcl) (tys := htys G) (ws := [(a, .inl (G.2.1 2, n, .inl f))]) hx hb hE.1 (hh_P1 (x := .inl (2, (n, .inl f))) hR hS rfl) 0 2 rfl rfl hout hdg k
theorem hx_bast (hx : p.tables.exec = Jvm.exec) (hb : c.code = cc) (hE : hEnv G A s) (hR : hRep G s S H) {n : Nat} {f : Nat → Int32} (hS : S a = some (.inl (2, (n, .inl f)))) {i x : Int32} (hout : ¬ vp_in i n) (hdg : decode cc pc = .ok (.bastore, 1))
    (k : ∀ tx : String, tx = (toString "Index " ++ toString i ++ toString " out of bounds for length " ++ toString n : String) → vx_Note p l e R s m args below meth c H locs cells slots Q (F0 m pc ls rest) "java/lang/ArrayIndexOutOfBoundsException" tx) : W p l e R s m args below meth c H locs cells slots Q (F0 m pc ls (.int x :: .int i :: .ref a :: rest)) :=
  vx_bastZ (D := G.1) (cl := hcl) (tys := htys G) (ws := [(a, .inl (G.2.1 2, n, .inl f))]) hx hb hE.1 (hh_P1 (x := .inl (2, (n, .inl f))) hR hS rfl) 0 2 rfl rfl hout hdg k
/-- an object of the map, as a thrown one -/
theorem hx_cell (hE : hEnv G A s) (hR : hRep G s S H) {ci N : Nat} {C : String} {T : u_T} (h : hoC S a ci) (hc : hcl[ci]? = some (C, T, N)) (hro : (ci == 19) = false) : ∃ ce : Cell, H[a]? = some ce ∧ ce.vm = .none ∧ s.vm.findClass C = some ce.cls := by
  obtain ⟨fs, hS⟩ := h
  obtain ⟨cell, h1, h2, h3⟩ := hrecvOK hE hR hS hc
  obtain ⟨r, -, cell', h4, -, h5, -⟩ := (hR a _ hS).2 hro
  have e : cell = cell' := Option.some.inj (h1.symm.trans h4)
  exact ⟨cell, h1, by rw [e]; exact h5, h3⟩
/-- new ArithmeticException("..") -/
theorem hx_make (hx : p.tables.exec = Jvm.exec) (hb : c.code = cc) (hl : l.stackTraces = false) (hts : ∀ w ∈ lw_all, w.before args s = true) (hown : s.vm.findClass own = some m.cls) (hE : hEnv G A s) (hR : hRep G s S H) (hDD : hDom A s.heap S0 S) (hS0 : va_S A s.heap H locs) (hA : ∀ q, s.heap.size ≤ q → A q) {text : String} {names : List String} {ik is ic i : Nat}
    (hnames : ∀ n ∈ names, Bundle.fit n = true) (hk : Cond.classLink own ik "java/lang/ArithmeticException" ∈ lw_all) (hini : Cond.initialized "java/lang/ArithmeticException" ∈ lw_all) (hz : (own, is, text, i) ∈ hks) (hat : ∀ w ∈ vx_atS own ic "java/lang/ArithmeticException" names, w ∈ lw_all ∨ w ∈ hNW) (hat2 : ∀ w ∈ vx_atS own ic "java/lang/ArithmeticException" names, w.onTables = true ∨ w = .arrayClass .byte) (hgood : ∀ w ∈ vx_atS own ic "java/lang/ArithmeticException" names, vx_ot w = true) (hsize : ls.size = c.maxLocals)
    (d0 : decode cc pc = .ok (.new ik, 3)) (d3 : decode cc (pc + 3) = .ok (.dup, 1)) (d4 : decode cc (pc + 4) = .ok (.ldc is, 2)) (d6 : decode cc (pc + 6) = .ok (.invokespecial ic, 3))
    (hRframes : names.length + 3 < R.frames) (hRlocals : (rest.map fun v => v.category).sum + (13 * (names.length + 1) + 43) ≤ R.locals) (hRcells : cells + 1 ≤ R.cells) (hRslots : slots + 6 ≤ R.slots)
    (kk : ∀ (q : Nat) (S1 : hH), S q = none → S1 = hup S q (.inr (20, [])) → ∀ (H1 : Heap), hRep G s S1 H1 → hDom A s.heap S0 S1 → va_S A s.heap H1 locs → W p l e R s m args below meth c H1 locs (cells + 1) (slots + 6) Q (F0 m (pc + 9) ls (.ref q :: rest))) : W p l e R s m args below meth c H locs cells slots Q (F0 m pc ls rest) := by
  obtain ⟨ws, w1, w2, w3, w4⟩ := hlist hR hDD
  refine vx_makeS (D := G.1) (cl := hcl) (tys := htys G) (ci := 20) (T0 := TJ2) (ws := ws) hx hb hl hown (by decide +kernel) hnames (hts _ hk) (hts _ hini) (hE.2.2.2.1 _ hz) (hat_use hts hE hat hat2) (fun w hw => ?_) hE.2.2.2.2.2.2.2.2.2.1 hE.2.2.2.2.2.2.2.2.2.2.1 hS0 hsize d0 d3 d4 d6 hE.1 w1 w2 hA rfl hRframes hRlocals hRcells hRslots (fun q H1 hP1 hD1 hS1 => ?_)
  · rcases List.mem_cons.mp hw with rfl | hw
    · rfl
    rcases List.mem_cons.mp hw with rfl | hw
    · rfl
    exact hgood w hw
  · have hlast : (ws ++ [(q, henc G (.inr (20, [])))])[ws.length]? = some (q, henc G (.inr (20, []))) := by simp
    have hqn : S q = none := by
      cases hz : S q with
      | none => rfl
      | some x =>
        cases hr : hro x with
        | true =>
          rcases hDD q x hz with z | z
          · rw [hr] at z; cases z.1
          · exact absurd (hD1.2 _ _ hlast) z.2.2.2
        | false =>
          obtain ⟨j, hj⟩ := w3 q x hz hr
          have hjl := (List.getElem?_eq_some_iff.mp hj).1
          have hj2 : (ws ++ [(q, henc G (.inr (20, [])))])[j]? = some (q, henc G x) := by
            rw [List.getElem?_append_left hjl]; exact hj
          have := hD1.1 _ _ _ _ hj2 hlast rfl
          omega
    obtain ⟨g1, g2⟩ := hgrow (x := .inr (20, [])) hR hDD w3 w4 hS0 hS1 rfl hP1 hD1 hqn
    exact kk q _ hqn rfl H1 g1 g2 hS1
theorem hh_getsZ (hx : p.tables.exec = Jvm.exec) (hb : c.code = cc) (hts : ∀ w ∈ lw_all, w.before args s = true) (hown : s.vm.findClass own = some m.cls) {C n d : String} (hz : va_Zq C n d A s s.heap) (hS : va_S A s.heap H locs) (hlink : Cond.fieldLink own index C n d ∈ lw_all) (hdg : decode cc pc = .ok (.getstatic index, 3))
    (kk : ∀ q : Option Nat, W p l e R s m args below meth c H locs cells slots Q (F0 m (pc + 3) ls (va_rf q :: rest))) : W p l e R s m args below meth c H locs cells slots Q (F0 m pc ls rest) := by
  rcases hz with hz | ⟨t, hz⟩
  · exact va_gets hx hb hz hS hown (hts _ hlink) (fun _ h => h) hdg (kk none)
  · exact va_gets hx hb hz hS hown (hts _ hlink) (fun _ h => h) hdg (kk (some t))
theorem hx_txt11 {t : String} (h : t.toList.length ≤ 11) : (t == notModelled) = false ∧ (stringBytes (stringToUtf16 t)).size ≤ 212 := by
  constructor
  · rw [beq_eq_false_iff_ne]
    intro e
    rw [e] at h
    revert h
    decide +kernel
  · have b1 := stringBytes_size_le (stringToUtf16 t)
    have b2 := utf16_size_le t
    omega
end HXROWS
section HXCALLS
variable {p : Program} {l : Launch} {e : Env} {R : Room} {s : State} {m : MethodId} {args : Array Value} {below : List Frame} {meth : Method} {c : Code} {H : Heap} {locs : List Loc} {cells slots : Nat} {QQ : State → Prop}
variable {cc : ByteArray} {pc nL mc ms : Nat} {ls : Array Slot} {st rest : List Value} {G : hG} {A : Nat → Prop} {S S0 : hH} {own : String} {QX : String → Nat → hH → Prop}
abbrev hXk (p : Program) (l : Launch) (e : Env) (R : Room) (s : State) (m : MethodId) (args : Array Value) (below : List Frame) (meth : Method) (c : Code) (cells slots : Nat) (QQ : State → Prop) (G : hG) (A : Nat → Prop) (S0 : hH) (g : JFrame) (QX : String → Nat → hH → Prop) : Prop := ∀ (E : String) (q : Nat) (S1 : hH), QX E q S1 → ∀ (H1 : Heap) (locs1 : List Loc) (ce : Cell), hRep G s S1 H1 → hDom A s.heap S0 S1 → va_S A s.heap H1 locs1 → H1[q]? = some ce → ce.vm = .none → s.vm.findClass E = some ce.cls → vx_W p l e R s m args below meth c H1 locs1 cells slots QQ g q
theorem hcx_I {Q : Int32 → hH → Prop} {a : Array Value} (X : hCtx p s m args c G A own cc nL) (hRR : hRep G s S H) (hDD : hDom A s.heap S0 S) (hS : va_S A s.heap H locs) (hr : vx_Run p l e R s m args below meth c H locs cells slots mc ms (F0 m pc ls st) rest (va_Qi Q (hB G S H.size) (hAo S H.size) a) (hXC G S H.size QX) (hAo S H.size)) (kx : hXk p l e R s m args below meth c (cells + mc) (slots + ms) QQ G A S0 (F0 m pc ls rest) QX)
    (kk : ∀ (r : Int32) (S1 : hH), Q r S1 → ∀ (H1 : Heap) (locs1 : List Loc), hRep G s S1 H1 → hDom A s.heap S0 S1 → va_S A s.heap H1 locs1 → W p l e R s m args below meth c H1 locs1 (cells + mc) (slots + ms) QQ (F0 m (pc + 3) ls (.int r :: rest))) : W p l e R s m args below meth c H locs cells slots QQ (F0 m pc ls st) :=
  vx_calli hr hS (fun q _ h => hsub hDD hS X.2.2.2.2.2.2 q h) (hsub hDD hS X.2.2.2.2.2.2) (fun q _ h => hsub hDD hS X.2.2.2.2.2.2 q h)
    (fun E ce q9 u t H1 locs1 ht hvm hp hb hz hk hS1 h1 h2 h3 => by
      obtain ⟨e1, e2, hB1⟩ := hb
      obtain ⟨E0, q0, S1⟩ := u
      obtain rfl : E0 = E := e1
      obtain rfl : q0 = q9 := e2
      obtain ⟨z1, z2⟩ := hback2 hB1 ht hvm hDD (hsub hDD hS X.2.2.2.2.2.2)
      exact kx _ _ S1 hp H1 locs1 ce z1 z2 hS1 h1 h2 h3)
    (fun r u t H1 locs1 ht hvm hp hB1 hz hk hS1 => (fun z => kk r u hp H1 locs1 z.1 z.2 hS1) (hback2 hB1 ht hvm hDD (hsub hDD hS X.2.2.2.2.2.2)))
theorem hcx_L {Q : Int64 → hH → Prop} {a : Array Value} (X : hCtx p s m args c G A own cc nL) (hRR : hRep G s S H) (hDD : hDom A s.heap S0 S) (hS : va_S A s.heap H locs) (hr : vx_Run p l e R s m args below meth c H locs cells slots mc ms (F0 m pc ls st) rest (va_Ql Q (hB G S H.size) (hAo S H.size) a) (hXC G S H.size QX) (hAo S H.size)) (kx : hXk p l e R s m args below meth c (cells + mc) (slots + ms) QQ G A S0 (F0 m pc ls rest) QX)
    (kk : ∀ (r : Int64) (S1 : hH), Q r S1 → ∀ (H1 : Heap) (locs1 : List Loc), hRep G s S1 H1 → hDom A s.heap S0 S1 → va_S A s.heap H1 locs1 → W p l e R s m args below meth c H1 locs1 (cells + mc) (slots + ms) QQ (F0 m (pc + 3) ls (.long r :: rest))) : W p l e R s m args below meth c H locs cells slots QQ (F0 m pc ls st) :=
  vx_calll hr hS (fun q _ h => hsub hDD hS X.2.2.2.2.2.2 q h) (hsub hDD hS X.2.2.2.2.2.2) (fun q _ h => hsub hDD hS X.2.2.2.2.2.2 q h)
    (fun E ce q9 u t H1 locs1 ht hvm hp hb hz hk hS1 h1 h2 h3 => by
      obtain ⟨e1, e2, hB1⟩ := hb
      obtain ⟨E0, q0, S1⟩ := u
      obtain rfl : E0 = E := e1
      obtain rfl : q0 = q9 := e2
      obtain ⟨z1, z2⟩ := hback2 hB1 ht hvm hDD (hsub hDD hS X.2.2.2.2.2.2)
      exact kx _ _ S1 hp H1 locs1 ce z1 z2 hS1 h1 h2 h3)
    (fun r u t H1 locs1 ht hvm hp hB1 hz hk hS1 => (fun z => kk r u hp H1 locs1 z.1 z.2 hS1) (hback2 hB1 ht hvm hDD (hsub hDD hS X.2.2.2.2.2.2)))
theorem hcx_N {Q : Option Nat → hH → Prop} {a : Array Value} (X : hCtx p s m args c G A own cc nL) (hRR : hRep G s S H) (hDD : hDom A s.heap S0 S) (hS : va_S A s.heap H locs) (hr : vx_Run p l e R s m args below meth c H locs cells slots mc ms (F0 m pc ls st) rest (va_Qq Q (hB G S H.size) (hAo S H.size) a) (hXC G S H.size QX) (hAo S H.size)) (kx : hXk p l e R s m args below meth c (cells + mc) (slots + ms) QQ G A S0 (F0 m pc ls rest) QX)
    (kk : ∀ (r : Option Nat) (S1 : hH), Q r S1 → ∀ (H1 : Heap) (locs1 : List Loc), hRep G s S1 H1 → hDom A s.heap S0 S1 → va_S A s.heap H1 locs1 → W p l e R s m args below meth c H1 locs1 (cells + mc) (slots + ms) QQ (F0 m (pc + 3) ls (va_rf r :: rest))) : W p l e R s m args below meth c H locs cells slots QQ (F0 m pc ls st) :=
  vx_callq hr hS (fun q _ h => hsub hDD hS X.2.2.2.2.2.2 q h) (hsub hDD hS X.2.2.2.2.2.2) (fun q _ h => hsub hDD hS X.2.2.2.2.2.2 q h)
    (fun E ce q9 u t H1 locs1 ht hvm hp hb hz hk hS1 h1 h2 h3 => by
      obtain ⟨e1, e2, hB1⟩ := hb
      obtain ⟨E0, q0, S1⟩ := u
      obtain rfl : E0 = E := e1
      obtain rfl : q0 = q9 := e2
      obtain ⟨z1, z2⟩ := hback2 hB1 ht hvm hDD (hsub hDD hS X.2.2.2.2.2.2)
      exact kx _ _ S1 hp H1 locs1 ce z1 z2 hS1 h1 h2 h3)
    (fun r u t H1 locs1 ht hvm hp hB1 hz hk hS1 => (fun z => kk r u hp H1 locs1 z.1 z.2 hS1) (hback2 hB1 ht hvm hDD (hsub hDD hS X.2.2.2.2.2.2)))
theorem hcx_V {Q : hH → Prop} {a : Array Value} (X : hCtx p s m args c G A own cc nL) (hRR : hRep G s S H) (hDD : hDom A s.heap S0 S) (hS : va_S A s.heap H locs) (hr : vx_Run p l e R s m args below meth c H locs cells slots mc ms (F0 m pc ls st) rest (va_Qv Q (hB G S H.size) (hAo S H.size) a) (hXC G S H.size QX) (hAo S H.size)) (kx : hXk p l e R s m args below meth c (cells + mc) (slots + ms) QQ G A S0 (F0 m pc ls rest) QX)
    (kk : ∀ (S1 : hH), Q S1 → ∀ (H1 : Heap) (locs1 : List Loc), hRep G s S1 H1 → hDom A s.heap S0 S1 → va_S A s.heap H1 locs1 → W p l e R s m args below meth c H1 locs1 (cells + mc) (slots + ms) QQ (F0 m (pc + 3) ls (rest))) : W p l e R s m args below meth c H locs cells slots QQ (F0 m pc ls st) :=
  vx_callv hr hS (fun q _ h => hsub hDD hS X.2.2.2.2.2.2 q h) (hsub hDD hS X.2.2.2.2.2.2) (fun q _ h => hsub hDD hS X.2.2.2.2.2.2 q h)
    (fun E ce q9 u t H1 locs1 ht hvm hp hb hz hk hS1 h1 h2 h3 => by
      obtain ⟨e1, e2, hB1⟩ := hb
      obtain ⟨E0, q0, S1⟩ := u
      obtain rfl : E0 = E := e1
      obtain rfl : q0 = q9 := e2
      obtain ⟨z1, z2⟩ := hback2 hB1 ht hvm hDD (hsub hDD hS X.2.2.2.2.2.2)
      exact kx _ _ S1 hp H1 locs1 ce z1 z2 hS1 h1 h2 h3)
    (fun u t H1 locs1 ht hvm hp hB1 hz hk hS1 => (fun z => kk u hp H1 locs1 z.1 z.2 hS1) (hback2 hB1 ht hvm hDD (hsub hDD hS X.2.2.2.2.2.2)))

theorem hcx_R {Q : Nat → hH → Prop} {a : Array Value} (X : hCtx p s m args c G A own cc nL) (hRR : hRep G s S H) (hDD : hDom A s.heap S0 S) (hS : va_S A s.heap H locs) (hr : vx_Run p l e R s m args below meth c H locs cells slots mc ms (F0 m pc ls st) rest (va_Qq (fun r S1 => ∃ z, r = some z ∧ Q z S1) (hB G S H.size) (hAo S H.size) a) (hXC G S H.size QX) (hAo S H.size)) (kx : hXk p l e R s m args below meth c (cells + mc) (slots + ms) QQ G A S0 (F0 m pc ls rest) QX)
    (kk : ∀ (r : Nat) (S1 : hH), Q r S1 → ∀ (H1 : Heap) (locs1 : List Loc), hRep G s S1 H1 → hDom A s.heap S0 S1 → va_S A s.heap H1 locs1 → W p l e R s m args below meth c H1 locs1 (cells + mc) (slots + ms) QQ (F0 m (pc + 3) ls (.ref r :: rest))) : W p l e R s m args below meth c H locs cells slots QQ (F0 m pc ls st) :=
  hcx_N X hRR hDD hS hr kx (fun r S1 hq H1 locs1 h1 h2 h3 => by obtain ⟨z, rfl, hq⟩ := hq; exact kk z S1 hq H1 locs1 h1 h2 h3)
theorem hrxV {C : String} {n index maxL fr lo : Nat} {b : Nat} {y : MethodName} {bytes : ByteArray} {ret : Option FieldType} {As : List Value} {Qc : Array Value → State → Outcome → State → Prop} {XC : String → Addr → State → State → Prop} {free : Addr → Prop} (X : hCtx p s m args c G A own cc nL) (hM : vx_Met l y (ws_ y bytes maxL ret) (hRm fr lo mc ms) (hPc G (.ref b :: As) S H.size) Qc XC mc ms free) (hg : GoodIn lw_all (wsV own index C y (ws_ y bytes maxL ret))) (hd : y.cls = C ∧ y.cls ≠ "java/lang/invoke/MethodHandle" ∧ y.cls ≠ "java/lang/invoke/VarHandle" ∧ (parseMethodDescriptor y.desc).map (fun d => d.parameters.length) = some n) (hfr : fr + 1 ≤ R.frames) (hlo : 8 + (maxL + 11) + lo ≤ R.locals) (hf : cells + mc ≤ R.cells ∧ slots + ms ≤ R.slots) (hn : As.length = n) (hst : st = As.reverse ++ .ref b :: rest) (hW : (rest.map fun v => v.category).sum ≤ 8) (hdg : decode cc pc = .ok (.invokevirtual index, 3)) (hsz : ls.size = nL) (hp : PreV s H C b (hPc G (.ref b :: As) S H.size) As) :
    vx_Run p l e R s m args below meth c H locs cells slots mc ms (F0 m pc ls st) rest (Qc (Value.ref b :: As).toArray) XC free :=
  vx_runV (As := As) (rest := rest) ⟨X.1, X.2.1, X.2.2.1, X.2.2.2.1, X.2.2.2.2.1⟩ hM (cwV n X.2.2.2.2.1 hg rfl rfl rfl hd ⟨hfr, hlo⟩) hp rfl hn hsz hst (lv_room hW) hdg hf
theorem hrxVW {hh : List (Nat × Nat × Nat × Nat)} {C : String} {n index maxL fr lo : Nat} {b : Nat} {y : MethodName} {bytes : ByteArray} {ret : Option FieldType} {As : List Value} {Qc : Array Value → State → Outcome → State → Prop} {XC : String → Addr → State → State → Prop} {free : Addr → Prop} (X : hCtx p s m args c G A own cc nL) (hM : vx_Met l y (wsW_ y bytes maxL ret hh) (hRm fr lo mc ms) (hPc G (.ref b :: As) S H.size) Qc XC mc ms free) (hg : GoodIn lw_all (wsV own index C y (wsW_ y bytes maxL ret hh))) (hd : y.cls = C ∧ y.cls ≠ "java/lang/invoke/MethodHandle" ∧ y.cls ≠ "java/lang/invoke/VarHandle" ∧ (parseMethodDescriptor y.desc).map (fun d => d.parameters.length) = some n) (hfr : fr + 1 ≤ R.frames) (hlo : 8 + (maxL + 11) + lo ≤ R.locals) (hf : cells + mc ≤ R.cells ∧ slots + ms ≤ R.slots) (hn : As.length = n) (hst : st = As.reverse ++ .ref b :: rest) (hW : (rest.map fun v => v.category).sum ≤ 8) (hdg : decode cc pc = .ok (.invokevirtual index, 3)) (hsz : ls.size = nL) (hp : PreV s H C b (hPc G (.ref b :: As) S H.size) As) :
    vx_Run p l e R s m args below meth c H locs cells slots mc ms (F0 m pc ls st) rest (Qc (Value.ref b :: As).toArray) XC free :=
  vx_runVX (As := As) (rest := rest) ⟨X.1, X.2.1, X.2.2.1, X.2.2.2.1, X.2.2.2.2.1⟩ hM (vx_cwVW n X.2.2.2.2.1 hg rfl rfl rfl hd ⟨hfr, hlo⟩) hp rfl hn hsz hst (lv_room hW) hdg hf
theorem hrxS {n index maxL fr lo : Nat} {y : MethodName} {bytes : ByteArray} {ret : Option FieldType} {As : List Value} {Qc : Array Value → State → Outcome → State → Prop} {XC : String → Addr → State → State → Prop} {free : Addr → Prop} (X : hCtx p s m args c G A own cc nL) (hM : vx_Met l y (ws_ y bytes maxL ret) (hRm fr lo mc ms) (hPc G As S H.size) Qc XC mc ms free) (hg : GoodIn lw_all (va_wsS own index y (ws_ y bytes maxL ret))) (hd : y.cls ≠ "java/lang/invoke/MethodHandle" ∧ y.cls ≠ "java/lang/invoke/VarHandle" ∧ (parseMethodDescriptor y.desc).map (fun d => d.parameters.length) = some n) (hfr : fr + 1 ≤ R.frames) (hlo : 8 + (maxL + 11) + lo ≤ R.locals) (hf : cells + mc ≤ R.cells ∧ slots + ms ≤ R.slots) (hn : As.length = n) (hst : st = As.reverse ++ rest) (hW : (rest.map fun v => v.category).sum ≤ 8) (hdg : decode cc pc = .ok (.invokestatic index, 3)) (hsz : ls.size = nL) (hp : PreS s H (hPc G As S H.size) As) :
    vx_Run p l e R s m args below meth c H locs cells slots mc ms (F0 m pc ls st) rest (Qc As.toArray) XC free :=
  vx_runS (As := As) (rest := rest) ⟨X.1, X.2.1, X.2.2.1, X.2.2.2.1, X.2.2.2.2.1⟩ hM (va_cwS n X.2.2.2.2.1 hg rfl rfl rfl hd ⟨hfr, hlo⟩) hp rfl hn hsz hst (lv_room hW) hdg hf
end HXCALLS
section HXOPEN
variable {l : Launch} {G : hG} {y : MethodName} {bytes : ByteArray} {maxL fr lo mc ms : Nat} {av : List Value} {S : hH} {QX : String → Nat → hH → Prop}
theorem hox_I {Q : Int32 → hH → Prop} (hy : plainFor y = true) (hn : (lg_sl av).length ≤ maxL)
    (body : ∀ (p : Program) (e : Env) (s : State) (R : Room) (m : MethodId) (args : Array Value) (below : List Frame) (meth : Method) (c : Code) (QQ : State → Prop) (A : Nat → Prop), hCtx p s m args c G A y.cls bytes maxL → meth.name = y.name → meth.locks = false → c.exceptionTable.toList = [] → R.frames = fr → R.locals = lo → R.cells = mc → R.slots = ms →
      (∀ (pc : Nat) (H : Heap) (locs : List Loc) (ls : Array Slot) (k n : Nat) (r : Int32) (S1 : hH), Q r S1 → k ≤ mc → n ≤ ms → hRep G s S1 H → hDom A s.heap S S1 → va_S A s.heap H locs → decode bytes pc = .ok (.ireturn, 1) → W p l e R s m args below meth c H locs k n QQ (F0 m pc ls [.int r])) →
      (∀ (pc : Nat) (H : Heap) (locs : List Loc) (ls : Array Slot) (rest : List Value) (k n : Nat) (E : String) (q : Nat) (ce : Cell) (S1 : hH), (∀ x ∈ c.exceptionTable.toList, covers x pc = false) → QX E q S1 → k ≤ mc → n ≤ ms → hRep G s S1 H → hDom A s.heap S S1 → va_S A s.heap H locs → H[q]? = some ce → ce.vm = .none → s.vm.findClass E = some ce.cls → vx_W p l e R s m args below meth c H locs k n QQ (F0 m pc ls rest) q) →
      ∀ (H : Heap) (locs : List Loc) (ls : Array Slot), hRep G s S H → hDom A s.heap S S → va_S A s.heap H locs → lv_has ls maxL (lv_args 0 av) → W p l e R s m args below meth c H locs 0 0 QQ (F0 m 0 ls [])) :
    hXetI l G y (ws_ y bytes maxL (some .int)) fr lo mc ms av S Q QX := by
  intro sz
  refine vx_ofW (cc := bytes) (maxL := maxL) (ret := (some .int)) hy rfl ?_
  intro p e s m args below meth c s₁ B hml htab0 hv
  obtain ⟨rfl, rfl, hR, hE⟩ := hv
  have hts0 := atoms_spec (ws := (ws_ y bytes maxL (some .int))) B.pre
  have hts : ∀ w ∈ lw_all, w.before _ s = true := fun w h => hts0 w (List.mem_cons_of_mem _ h)
  have hown : s.vm.findClass y.cls = some m.cls := findClass_of_methodNamed B.named
  have hlocks := B.notSynchronized
  have htab : c.exceptionTable.toList = [] := List.eq_nil_iff_forall_not_mem.mpr (fun x hx => htab0 x hx)
  rw [lg_entry_eq]
  exact body p e s _ m _ below meth c _ (hAo S s.heap.size) ⟨B.exec, B.bytes, hml, hown, hts, hE, fun q h => Or.inr h⟩ (name_of_methodNamed B.named B.method).1 hlocks htab rfl rfl rfl rfl (fun pc H locs ls k n r S1 hq hk1 hk2 hRR hDD hS hd => vx_ret (W.widen hk1 hk2 (W.iret B.exec B.bytes B.returns (fun t ht hW => ⟨⟨r, S1, rfl, hq, hB.mk ht hW hRR hDD⟩, hS.F ht⟩) hS.2.2 hd)))
    (fun pc H locs ls rest k n E q ce S1 hout hq hk1 hk2 hRR hDD hS h1 h2 h3 => vx_out hout hlocks h1 h2 h3 (fun t ht hW => ⟨(E, q, S1), hq, ⟨rfl, rfl, (by refine ⟨by rw [ht]; exact hRR.moved hW, fun a x hx => ?_⟩; rcases hDD a x hx with h | h; exact Or.inl h; exact Or.inr ⟨h.1, h.2.1⟩)⟩, hS.F ht⟩) hS.2.2 hk1 hk2) s.heap [] _ hR (hDom.entry hR) va_S.rf (lv_entry av hn)
theorem hox_Z {ty : FieldType} {Q : Int32 → hH → Prop} (hy : plainFor y = true) (hn : (lg_sl av).length ≤ maxL)
    (body : ∀ (p : Program) (e : Env) (s : State) (R : Room) (m : MethodId) (args : Array Value) (below : List Frame) (meth : Method) (c : Code) (QQ : State → Prop) (A : Nat → Prop), hCtx p s m args c G A y.cls bytes maxL → meth.name = y.name → meth.locks = false → c.exceptionTable.toList = [] → R.frames = fr → R.locals = lo → R.cells = mc → R.slots = ms →
      (∀ (pc : Nat) (H : Heap) (locs : List Loc) (ls : Array Slot) (k n : Nat) (r : Int32) (S1 : hH), Q r S1 → narrow ty (.int r) = .int r → k ≤ mc → n ≤ ms → hRep G s S1 H → hDom A s.heap S S1 → va_S A s.heap H locs → decode bytes pc = .ok (.ireturn, 1) → W p l e R s m args below meth c H locs k n QQ (F0 m pc ls [.int r])) →
      (∀ (pc : Nat) (H : Heap) (locs : List Loc) (ls : Array Slot) (rest : List Value) (k n : Nat) (E : String) (q : Nat) (ce : Cell) (S1 : hH), (∀ x ∈ c.exceptionTable.toList, covers x pc = false) → QX E q S1 → k ≤ mc → n ≤ ms → hRep G s S1 H → hDom A s.heap S S1 → va_S A s.heap H locs → H[q]? = some ce → ce.vm = .none → s.vm.findClass E = some ce.cls → vx_W p l e R s m args below meth c H locs k n QQ (F0 m pc ls rest) q) →
      ∀ (H : Heap) (locs : List Loc) (ls : Array Slot), hRep G s S H → hDom A s.heap S S → va_S A s.heap H locs → lv_has ls maxL (lv_args 0 av) → W p l e R s m args below meth c H locs 0 0 QQ (F0 m 0 ls [])) :
    hXetI l G y (ws_ y bytes maxL (some ty)) fr lo mc ms av S Q QX := by
  intro sz
  refine vx_ofW (cc := bytes) (maxL := maxL) (ret := (some ty)) hy rfl ?_
  intro p e s m args below meth c s₁ B hml htab0 hv
  obtain ⟨rfl, rfl, hR, hE⟩ := hv
  have hts0 := atoms_spec (ws := (ws_ y bytes maxL (some ty))) B.pre
  have hts : ∀ w ∈ lw_all, w.before _ s = true := fun w h => hts0 w (List.mem_cons_of_mem _ h)
  have hown : s.vm.findClass y.cls = some m.cls := findClass_of_methodNamed B.named
  have hlocks := B.notSynchronized
  have htab : c.exceptionTable.toList = [] := List.eq_nil_iff_forall_not_mem.mpr (fun x hx => htab0 x hx)
  rw [lg_entry_eq]
  exact body p e s _ m _ below meth c _ (hAo S s.heap.size) ⟨B.exec, B.bytes, hml, hown, hts, hE, fun q h => Or.inr h⟩ (name_of_methodNamed B.named B.method).1 hlocks htab rfl rfl rfl rfl (fun pc H locs ls k n r S1 hq hz hk1 hk2 hRR hDD hS hd => vx_ret (W.widen hk1 hk2 (W.zret B.exec B.bytes B.returns hz (fun t ht hW => ⟨⟨r, S1, rfl, hq, hB.mk ht hW hRR hDD⟩, hS.F ht⟩) hS.2.2 hd)))
    (fun pc H locs ls rest k n E q ce S1 hout hq hk1 hk2 hRR hDD hS h1 h2 h3 => vx_out hout hlocks h1 h2 h3 (fun t ht hW => ⟨(E, q, S1), hq, ⟨rfl, rfl, (by refine ⟨by rw [ht]; exact hRR.moved hW, fun a x hx => ?_⟩; rcases hDD a x hx with h | h; exact Or.inl h; exact Or.inr ⟨h.1, h.2.1⟩)⟩, hS.F ht⟩) hS.2.2 hk1 hk2) s.heap [] _ hR (hDom.entry hR) va_S.rf (lv_entry av hn)
theorem hox_L {Q : Int64 → hH → Prop} (hy : plainFor y = true) (hn : (lg_sl av).length ≤ maxL)
    (body : ∀ (p : Program) (e : Env) (s : State) (R : Room) (m : MethodId) (args : Array Value) (below : List Frame) (meth : Method) (c : Code) (QQ : State → Prop) (A : Nat → Prop), hCtx p s m args c G A y.cls bytes maxL → meth.name = y.name → meth.locks = false → c.exceptionTable.toList = [] → R.frames = fr → R.locals = lo → R.cells = mc → R.slots = ms →
      (∀ (pc : Nat) (H : Heap) (locs : List Loc) (ls : Array Slot) (k n : Nat) (r : Int64) (S1 : hH), Q r S1 → k ≤ mc → n ≤ ms → hRep G s S1 H → hDom A s.heap S S1 → va_S A s.heap H locs → decode bytes pc = .ok (.lreturn, 1) → W p l e R s m args below meth c H locs k n QQ (F0 m pc ls [.long r])) →
      (∀ (pc : Nat) (H : Heap) (locs : List Loc) (ls : Array Slot) (rest : List Value) (k n : Nat) (E : String) (q : Nat) (ce : Cell) (S1 : hH), (∀ x ∈ c.exceptionTable.toList, covers x pc = false) → QX E q S1 → k ≤ mc → n ≤ ms → hRep G s S1 H → hDom A s.heap S S1 → va_S A s.heap H locs → H[q]? = some ce → ce.vm = .none → s.vm.findClass E = some ce.cls → vx_W p l e R s m args below meth c H locs k n QQ (F0 m pc ls rest) q) →
      ∀ (H : Heap) (locs : List Loc) (ls : Array Slot), hRep G s S H → hDom A s.heap S S → va_S A s.heap H locs → lv_has ls maxL (lv_args 0 av) → W p l e R s m args below meth c H locs 0 0 QQ (F0 m 0 ls [])) :
    hXetL l G y (ws_ y bytes maxL (some .long)) fr lo mc ms av S Q QX := by
  intro sz
  refine vx_ofW (cc := bytes) (maxL := maxL) (ret := (some .long)) hy rfl ?_
  intro p e s m args below meth c s₁ B hml htab0 hv
  obtain ⟨rfl, rfl, hR, hE⟩ := hv
  have hts0 := atoms_spec (ws := (ws_ y bytes maxL (some .long))) B.pre
  have hts : ∀ w ∈ lw_all, w.before _ s = true := fun w h => hts0 w (List.mem_cons_of_mem _ h)
  have hown : s.vm.findClass y.cls = some m.cls := findClass_of_methodNamed B.named
  have hlocks := B.notSynchronized
  have htab : c.exceptionTable.toList = [] := List.eq_nil_iff_forall_not_mem.mpr (fun x hx => htab0 x hx)
  rw [lg_entry_eq]
  exact body p e s _ m _ below meth c _ (hAo S s.heap.size) ⟨B.exec, B.bytes, hml, hown, hts, hE, fun q h => Or.inr h⟩ (name_of_methodNamed B.named B.method).1 hlocks htab rfl rfl rfl rfl (fun pc H locs ls k n r S1 hq hk1 hk2 hRR hDD hS hd => vx_ret (W.widen hk1 hk2 (W.lret B.exec B.bytes B.returns (fun t ht hW => ⟨⟨r, S1, rfl, hq, hB.mk ht hW hRR hDD⟩, hS.F ht⟩) hS.2.2 hd)))
    (fun pc H locs ls rest k n E q ce S1 hout hq hk1 hk2 hRR hDD hS h1 h2 h3 => vx_out hout hlocks h1 h2 h3 (fun t ht hW => ⟨(E, q, S1), hq, ⟨rfl, rfl, (by refine ⟨by rw [ht]; exact hRR.moved hW, fun a x hx => ?_⟩; rcases hDD a x hx with h | h; exact Or.inl h; exact Or.inr ⟨h.1, h.2.1⟩)⟩, hS.F ht⟩) hS.2.2 hk1 hk2) s.heap [] _ hR (hDom.entry hR) va_S.rf (lv_entry av hn)
theorem hox_N {ty : FieldType} {Q : Option Nat → hH → Prop} (hyt : (∃ n, ty = .object n) ∨ ∃ t, ty = .array t) (hy : plainFor y = true) (hn : (lg_sl av).length ≤ maxL)
    (body : ∀ (p : Program) (e : Env) (s : State) (R : Room) (m : MethodId) (args : Array Value) (below : List Frame) (meth : Method) (c : Code) (QQ : State → Prop) (A : Nat → Prop), hCtx p s m args c G A y.cls bytes maxL → meth.name = y.name → meth.locks = false → c.exceptionTable.toList = [] → R.frames = fr → R.locals = lo → R.cells = mc → R.slots = ms →
      (∀ (pc : Nat) (H : Heap) (locs : List Loc) (ls : Array Slot) (k n : Nat) (r : Option Nat) (S1 : hH), Q r S1 → k ≤ mc → n ≤ ms → hRep G s S1 H → hDom A s.heap S S1 → va_S A s.heap H locs → decode bytes pc = .ok (.areturn, 1) → W p l e R s m args below meth c H locs k n QQ (F0 m pc ls [va_rf r])) →
      (∀ (pc : Nat) (H : Heap) (locs : List Loc) (ls : Array Slot) (rest : List Value) (k n : Nat) (E : String) (q : Nat) (ce : Cell) (S1 : hH), (∀ x ∈ c.exceptionTable.toList, covers x pc = false) → QX E q S1 → k ≤ mc → n ≤ ms → hRep G s S1 H → hDom A s.heap S S1 → va_S A s.heap H locs → H[q]? = some ce → ce.vm = .none → s.vm.findClass E = some ce.cls → vx_W p l e R s m args below meth c H locs k n QQ (F0 m pc ls rest) q) →
      ∀ (H : Heap) (locs : List Loc) (ls : Array Slot), hRep G s S H → hDom A s.heap S S → va_S A s.heap H locs → lv_has ls maxL (lv_args 0 av) → W p l e R s m args below meth c H locs 0 0 QQ (F0 m 0 ls [])) :
    hXetN l G y (ws_ y bytes maxL (some ty)) fr lo mc ms av S Q QX := by
  intro sz
  refine vx_ofW (cc := bytes) (maxL := maxL) (ret := (some ty)) hy rfl ?_
  intro p e s m args below meth c s₁ B hml htab0 hv
  obtain ⟨rfl, rfl, hR, hE⟩ := hv
  have hts0 := atoms_spec (ws := (ws_ y bytes maxL (some ty))) B.pre
  have hts : ∀ w ∈ lw_all, w.before _ s = true := fun w h => hts0 w (List.mem_cons_of_mem _ h)
  have hown : s.vm.findClass y.cls = some m.cls := findClass_of_methodNamed B.named
  have hlocks := B.notSynchronized
  have htab : c.exceptionTable.toList = [] := List.eq_nil_iff_forall_not_mem.mpr (fun x hx => htab0 x hx)
  rw [lg_entry_eq]
  exact body p e s _ m _ below meth c _ (hAo S s.heap.size) ⟨B.exec, B.bytes, hml, hown, hts, hE, fun q h => Or.inr h⟩ (name_of_methodNamed B.named B.method).1 hlocks htab rfl rfl rfl rfl (fun pc H locs ls k n r S1 hq hk1 hk2 hRR hDD hS hd => vx_ret (W.widen hk1 hk2 (W.aret B.exec B.bytes B.returns hyt (va_rf_or r) (fun t ht hW => ⟨⟨r, S1, rfl, hq, hB.mk ht hW hRR hDD⟩, hS.F ht⟩) hS.2.2 hd)))
    (fun pc H locs ls rest k n E q ce S1 hout hq hk1 hk2 hRR hDD hS h1 h2 h3 => vx_out hout hlocks h1 h2 h3 (fun t ht hW => ⟨(E, q, S1), hq, ⟨rfl, rfl, (by refine ⟨by rw [ht]; exact hRR.moved hW, fun a x hx => ?_⟩; rcases hDD a x hx with h | h; exact Or.inl h; exact Or.inr ⟨h.1, h.2.1⟩)⟩, hS.F ht⟩) hS.2.2 hk1 hk2) s.heap [] _ hR (hDom.entry hR) va_S.rf (lv_entry av hn)
theorem hox_V {Q : hH → Prop} (hy : plainFor y = true) (hn : (lg_sl av).length ≤ maxL)
    (body : ∀ (p : Program) (e : Env) (s : State) (R : Room) (m : MethodId) (args : Array Value) (below : List Frame) (meth : Method) (c : Code) (QQ : State → Prop) (A : Nat → Prop), hCtx p s m args c G A y.cls bytes maxL → meth.name = y.name → meth.locks = false → c.exceptionTable.toList = [] → R.frames = fr → R.locals = lo → R.cells = mc → R.slots = ms →
      (∀ (pc : Nat) (H : Heap) (locs : List Loc) (ls : Array Slot) (k n : Nat) (S1 : hH), Q S1 → k ≤ mc → n ≤ ms → hRep G s S1 H → hDom A s.heap S S1 → va_S A s.heap H locs → decode bytes pc = .ok (.return_, 1) → W p l e R s m args below meth c H locs k n QQ (F0 m pc ls [])) →
      (∀ (pc : Nat) (H : Heap) (locs : List Loc) (ls : Array Slot) (rest : List Value) (k n : Nat) (E : String) (q : Nat) (ce : Cell) (S1 : hH), (∀ x ∈ c.exceptionTable.toList, covers x pc = false) → QX E q S1 → k ≤ mc → n ≤ ms → hRep G s S1 H → hDom A s.heap S S1 → va_S A s.heap H locs → H[q]? = some ce → ce.vm = .none → s.vm.findClass E = some ce.cls → vx_W p l e R s m args below meth c H locs k n QQ (F0 m pc ls rest) q) →
      ∀ (H : Heap) (locs : List Loc) (ls : Array Slot), hRep G s S H → hDom A s.heap S S → va_S A s.heap H locs → lv_has ls maxL (lv_args 0 av) → W p l e R s m args below meth c H locs 0 0 QQ (F0 m 0 ls [])) :
    hXetV l G y (ws_ y bytes maxL none) fr lo mc ms av S Q QX := by
  intro sz
  refine vx_ofW (cc := bytes) (maxL := maxL) (ret := none) hy rfl ?_
  intro p e s m args below meth c s₁ B hml htab0 hv
  obtain ⟨rfl, rfl, hR, hE⟩ := hv
  have hts0 := atoms_spec (ws := (ws_ y bytes maxL none)) B.pre
  have hts : ∀ w ∈ lw_all, w.before _ s = true := fun w h => hts0 w (List.mem_cons_of_mem _ h)
  have hown : s.vm.findClass y.cls = some m.cls := findClass_of_methodNamed B.named
  have hlocks := B.notSynchronized
  have htab : c.exceptionTable.toList = [] := List.eq_nil_iff_forall_not_mem.mpr (fun x hx => htab0 x hx)
  rw [lg_entry_eq]
  exact body p e s _ m _ below meth c _ (hAo S s.heap.size) ⟨B.exec, B.bytes, hml, hown, hts, hE, fun q h => Or.inr h⟩ (name_of_methodNamed B.named B.method).1 hlocks htab rfl rfl rfl rfl (fun pc H locs ls k n S1 hq hk1 hk2 hRR hDD hS hd => vx_ret (W.widen hk1 hk2 (W.vret B.exec B.bytes B.returns (fun t ht hW => ⟨⟨S1, rfl, hq, hB.mk ht hW hRR hDD⟩, hS.F ht⟩) hS.2.2 hd)))
    (fun pc H locs ls rest k n E q ce S1 hout hq hk1 hk2 hRR hDD hS h1 h2 h3 => vx_out hout hlocks h1 h2 h3 (fun t ht hW => ⟨(E, q, S1), hq, ⟨rfl, rfl, (by refine ⟨by rw [ht]; exact hRR.moved hW, fun a x hx => ?_⟩; rcases hDD a x hx with h | h; exact Or.inl h; exact Or.inr ⟨h.1, h.2.1⟩)⟩, hS.F ht⟩) hS.2.2 hk1 hk2) s.heap [] _ hR (hDom.entry hR) va_S.rf (lv_entry av hn)
theorem hoxW_I {hh : List (Nat × Nat × Nat × Nat)} {Q : Int32 → hH → Prop} (hy : plainFor y = true) (hn : (lg_sl av).length ≤ maxL)
    (body : ∀ (p : Program) (e : Env) (s : State) (R : Room) (m : MethodId) (args : Array Value) (below : List Frame) (meth : Method) (c : Code) (QQ : State → Prop) (A : Nat → Prop), hCtx p s m args c G A y.cls bytes maxL → meth.name = y.name → meth.locks = false → c.exceptionTable.toList = tableOf hh → R.frames = fr → R.locals = lo → R.cells = mc → R.slots = ms →
      (∀ (pc : Nat) (H : Heap) (locs : List Loc) (ls : Array Slot) (k n : Nat) (r : Int32) (S1 : hH), Q r S1 → k ≤ mc → n ≤ ms → hRep G s S1 H → hDom A s.heap S S1 → va_S A s.heap H locs → decode bytes pc = .ok (.ireturn, 1) → W p l e R s m args below meth c H locs k n QQ (F0 m pc ls [.int r])) →
      (∀ (pc : Nat) (H : Heap) (locs : List Loc) (ls : Array Slot) (rest : List Value) (k n : Nat) (E : String) (q : Nat) (ce : Cell) (S1 : hH), (∀ x ∈ c.exceptionTable.toList, covers x pc = false) → QX E q S1 → k ≤ mc → n ≤ ms → hRep G s S1 H → hDom A s.heap S S1 → va_S A s.heap H locs → H[q]? = some ce → ce.vm = .none → s.vm.findClass E = some ce.cls → vx_W p l e R s m args below meth c H locs k n QQ (F0 m pc ls rest) q) →
      ∀ (H : Heap) (locs : List Loc) (ls : Array Slot), hRep G s S H → hDom A s.heap S S → va_S A s.heap H locs → lv_has ls maxL (lv_args 0 av) → W p l e R s m args below meth c H locs 0 0 QQ (F0 m 0 ls [])) :
    hXetI l G y (wsW_ y bytes maxL (some .int) hh) fr lo mc ms av S Q QX := by
  intro sz
  refine vx_ofWH (cc := bytes) (maxL := maxL) (ret := (some .int)) (hh := hh) hy rfl ?_
  intro p e s m args below meth c s₁ B hml hv
  obtain ⟨rfl, rfl, hR, hE⟩ := hv
  have hts0 := atoms_spec (ws := (wsW_ y bytes maxL (some .int) hh)) B.pre
  have hts : ∀ w ∈ lw_all, w.before _ s = true := fun w h => hts0 w (List.mem_cons_of_mem _ h)
  have hown : s.vm.findClass y.cls = some m.cls := findClass_of_methodNamed B.named
  have hlocks := B.notSynchronized
  have htab : c.exceptionTable.toList = tableOf hh := vx_table (x := y) B (hts0 _ List.mem_cons_self)
  rw [lg_entry_eq]
  exact body p e s _ m _ below meth c _ (hAo S s.heap.size) ⟨B.exec, B.bytes, hml, hown, hts, hE, fun q h => Or.inr h⟩ (name_of_methodNamed B.named B.method).1 hlocks htab rfl rfl rfl rfl (fun pc H locs ls k n r S1 hq hk1 hk2 hRR hDD hS hd => vx_ret (W.widen hk1 hk2 (W.iret B.exec B.bytes B.returns (fun t ht hW => ⟨⟨r, S1, rfl, hq, hB.mk ht hW hRR hDD⟩, hS.F ht⟩) hS.2.2 hd)))
    (fun pc H locs ls rest k n E q ce S1 hout hq hk1 hk2 hRR hDD hS h1 h2 h3 => vx_out hout hlocks h1 h2 h3 (fun t ht hW => ⟨(E, q, S1), hq, ⟨rfl, rfl, (by refine ⟨by rw [ht]; exact hRR.moved hW, fun a x hx => ?_⟩; rcases hDD a x hx with h | h; exact Or.inl h; exact Or.inr ⟨h.1, h.2.1⟩)⟩, hS.F ht⟩) hS.2.2 hk1 hk2) s.heap [] _ hR (hDom.entry hR) va_S.rf (lv_entry av hn)
theorem hoxW_Z {ty : FieldType} {hh : List (Nat × Nat × Nat × Nat)} {Q : Int32 → hH → Prop} (hy : plainFor y = true) (hn : (lg_sl av).length ≤ maxL)
    (body : ∀ (p : Program) (e : Env) (s : State) (R : Room) (m : MethodId) (args : Array Value) (below : List Frame) (meth : Method) (c : Code) (QQ : State → Prop) (A : Nat → Prop), hCtx p s m args c G A y.cls bytes maxL → meth.name = y.name → meth.locks = false → c.exceptionTable.toList = tableOf hh → R.frames = fr → R.locals = lo → R.cells = mc → R.slots = ms →
      (∀ (pc : Nat) (H : Heap) (locs : List Loc) (ls : Array Slot) (k n : Nat) (r : Int32) (S1 : hH), Q r S1 → narrow ty (.int r) = .int r → k ≤ mc → n ≤ ms → hRep G s S1 H → hDom A s.heap S S1 → va_S A s.heap H locs → decode bytes pc = .ok (.ireturn, 1) → W p l e R s m args below meth c H locs k n QQ (F0 m pc ls [.int r])) →
      (∀ (pc : Nat) (H : Heap) (locs : List Loc) (ls : Array Slot) (rest : List Value) (k n : Nat) (E : String) (q : Nat) (ce : Cell) (S1 : hH), (∀ x ∈ c.exceptionTable.toList, covers x pc = false) → QX E q S1 → k ≤ mc → n ≤ ms → hRep G s S1 H → hDom A s.heap S S1 → va_S A s.heap H locs → H[q]? = some ce → ce.vm = .none → s.vm.findClass E = some ce.cls → vx_W p l e R s m args below meth c H locs k n QQ (F0 m pc ls rest) q) →
      ∀ (H : Heap) (locs : List Loc) (ls : Array Slot), hRep G s S H → hDom A s.heap S S → va_S A s.heap H locs → lv_has ls maxL (lv_args 0 av) → W p l e R s m args below meth c H locs 0 0 QQ (F0 m 0 ls [])) :
    hXetI l G y (wsW_ y bytes maxL (some ty) hh) fr lo mc ms av S Q QX := by
  intro sz
  refine vx_ofWH (cc := bytes) (maxL := maxL) (ret := (some ty)) (hh := hh) hy rfl ?_
  intro p e s m args below meth c s₁ B hml hv
  obtain ⟨rfl, rfl, hR, hE⟩ := hv
  have hts0 := atoms_spec (ws := (wsW_ y bytes maxL (some ty) hh)) B.pre
  have hts : ∀ w ∈ lw_all, w.before _ s = true := fun w h => hts0 w (List.mem_cons_of_mem _ h)
  have hown : s.vm.findClass y.cls = some m.cls := findClass_of_methodNamed B.named
  have hlocks := B.notSynchronized
  have htab : c.exceptionTable.toList = tableOf hh := vx_table (x := y) B (hts0 _ List.mem_cons_self)
  rw [lg_entry_eq]
  exact body p e s _ m _ below meth c _ (hAo S s.heap.size) ⟨B.exec, B.bytes, hml, hown, hts, hE, fun q h => Or.inr h⟩ (name_of_methodNamed B.named B.method).1 hlocks htab rfl rfl rfl rfl (fun pc H locs ls k n r S1 hq hz hk1 hk2 hRR hDD hS hd => vx_ret (W.widen hk1 hk2 (W.zret B.exec B.bytes B.returns hz (fun t ht hW => ⟨⟨r, S1, rfl, hq, hB.mk ht hW hRR hDD⟩, hS.F ht⟩) hS.2.2 hd)))
    (fun pc H locs ls rest k n E q ce S1 hout hq hk1 hk2 hRR hDD hS h1 h2 h3 => vx_out hout hlocks h1 h2 h3 (fun t ht hW => ⟨(E, q, S1), hq, ⟨rfl, rfl, (by refine ⟨by rw [ht]; exact hRR.moved hW, fun a x hx => ?_⟩; rcases hDD a x hx with h | h; exact Or.inl h; exact Or.inr ⟨h.1, h.2.1⟩)⟩, hS.F ht⟩) hS.2.2 hk1 hk2) s.heap [] _ hR (hDom.entry hR) va_S.rf (lv_entry av hn)
theorem hoxW_L {hh : List (Nat × Nat × Nat × Nat)} {Q : Int64 → hH → Prop} (hy : plainFor y = true) (hn : (lg_sl av).length ≤ maxL)
    (body : ∀ (p : Program) (e : Env) (s : State) (R : Room) (m : MethodId) (args : Array Value) (below : List Frame) (meth : Method) (c : Code) (QQ : State → Prop) (A : Nat → Prop), hCtx p s m args c G A y.cls bytes maxL → meth.name = y.name → meth.locks = false → c.exceptionTable.toList = tableOf hh → R.frames = fr → R.locals = lo → R.cells = mc → R.slots = ms →
      (∀ (pc : Nat) (H : Heap) (locs : List Loc) (ls : Array Slot) (k n : Nat) (r : Int64) (S1 : hH), Q r S1 → k ≤ mc → n ≤ ms → hRep G s S1 H → hDom A s.heap S S1 → va_S A s.heap H locs → decode bytes pc = .ok (.lreturn, 1) → W p l e R s m args below meth c H locs k n QQ (F0 m pc ls [.long r])) →
      (∀ (pc : Nat) (H : Heap) (locs : List Loc) (ls : Array Slot) (rest : List Value) (k n : Nat) (E : String) (q : Nat) (ce : Cell) (S1 : hH), (∀ x ∈ c.exceptionTable.toList, covers x pc = false) → QX E q S1 → k ≤ mc → n ≤ ms → hRep G s S1 H → hDom A s.heap S S1 → va_S A s.heap H locs → H[q]? = some ce → ce.vm = .none → s.vm.findClass E = some ce.cls → vx_W p l e R s m args below meth c H locs k n QQ (F0 m pc ls rest) q) →
      ∀ (H : Heap) (locs : List Loc) (ls : Array Slot), hRep G s S H → hDom A s.heap S S → va_S A s.heap H locs → lv_has ls maxL (lv_args 0 av) → W p l e R s m args below meth c H locs 0 0 QQ (F0 m 0 ls [])) :
    hXetL l G y (wsW_ y bytes maxL (some .long) hh) fr lo mc ms av S Q QX := by
  intro sz
  refine vx_ofWH (cc := bytes) (maxL := maxL) (ret := (some .long)) (hh := hh) hy rfl ?_
  intro p e s m args below meth c s₁ B hml hv
  obtain ⟨rfl, rfl, hR, hE⟩ := hv
  have hts0 := atoms_spec (ws := (wsW_ y bytes maxL (some .long) hh)) B.pre
  have hts : ∀ w ∈ lw_all, w.before _ s = true := fun w h => hts0 w (List.mem_cons_of_mem _ h)
  have hown : s.vm.findClass y.cls = some m.cls := findClass_of_methodNamed B.named
  have hlocks := B.notSynchronized
  have htab : c.exceptionTable.toList = tableOf hh := vx_table (x := y) B (hts0 _ List.mem_cons_self)
  rw [lg_entry_eq]
  exact body p e s _ m _ below meth c _ (hAo S s.heap.size) ⟨B.exec, B.bytes, hml, hown, hts, hE, fun q h => Or.inr h⟩ (name_of_methodNamed B.named B.method).1 hlocks htab rfl rfl rfl rfl (fun pc H locs ls k n r S1 hq hk1 hk2 hRR hDD hS hd => vx_ret (W.widen hk1 hk2 (W.lret B.exec B.bytes B.returns (fun t ht hW => ⟨⟨r, S1, rfl, hq, hB.mk ht hW hRR hDD⟩, hS.F ht⟩) hS.2.2 hd)))
    (fun pc H locs ls rest k n E q ce S1 hout hq hk1 hk2 hRR hDD hS h1 h2 h3 => vx_out hout hlocks h1 h2 h3 (fun t ht hW => ⟨(E, q, S1), hq, ⟨rfl, rfl, (by refine ⟨by rw [ht]; exact hRR.moved hW, fun a x hx => ?_⟩; rcases hDD a x hx with h | h; exact Or.inl h; exact Or.inr ⟨h.1, h.2.1⟩)⟩, hS.F ht⟩) hS.2.2 hk1 hk2) s.heap [] _ hR (hDom.entry hR) va_S.rf (lv_entry av hn)
theorem hoxW_N {ty : FieldType} {hh : List (Nat × Nat × Nat × Nat)} {Q : Option Nat → hH → Prop} (hyt : (∃ n, ty = .object n) ∨ ∃ t, ty = .array t) (hy : plainFor y = true) (hn : (lg_sl av).length ≤ maxL)
    (body : ∀ (p : Program) (e : Env) (s : State) (R : Room) (m : MethodId) (args : Array Value) (below : List Frame) (meth : Method) (c : Code) (QQ : State → Prop) (A : Nat → Prop), hCtx p s m args c G A y.cls bytes maxL → meth.name = y.name → meth.locks = false → c.exceptionTable.toList = tableOf hh → R.frames = fr → R.locals = lo → R.cells = mc → R.slots = ms →
      (∀ (pc : Nat) (H : Heap) (locs : List Loc) (ls : Array Slot) (k n : Nat) (r : Option Nat) (S1 : hH), Q r S1 → k ≤ mc → n ≤ ms → hRep G s S1 H → hDom A s.heap S S1 → va_S A s.heap H locs → decode bytes pc = .ok (.areturn, 1) → W p l e R s m args below meth c H locs k n QQ (F0 m pc ls [va_rf r])) →
      (∀ (pc : Nat) (H : Heap) (locs : List Loc) (ls : Array Slot) (rest : List Value) (k n : Nat) (E : String) (q : Nat) (ce : Cell) (S1 : hH), (∀ x ∈ c.exceptionTable.toList, covers x pc = false) → QX E q S1 → k ≤ mc → n ≤ ms → hRep G s S1 H → hDom A s.heap S S1 → va_S A s.heap H locs → H[q]? = some ce → ce.vm = .none → s.vm.findClass E = some ce.cls → vx_W p l e R s m args below meth c H locs k n QQ (F0 m pc ls rest) q) →
      ∀ (H : Heap) (locs : List Loc) (ls : Array Slot), hRep G s S H → hDom A s.heap S S → va_S A s.heap H locs → lv_has ls maxL (lv_args 0 av) → W p l e R s m args below meth c H locs 0 0 QQ (F0 m 0 ls [])) :
    hXetN l G y (wsW_ y bytes maxL (some ty) hh) fr lo mc ms av S Q QX := by
  intro sz
  refine vx_ofWH (cc := bytes) (maxL := maxL) (ret := (some ty)) (hh := hh) hy rfl ?_
  intro p e s m args below meth c s₁ B hml hv
  obtain ⟨rfl, rfl, hR, hE⟩ := hv
  have hts0 := atoms_spec (ws := (wsW_ y bytes maxL (some ty) hh)) B.pre
  have hts : ∀ w ∈ lw_all, w.before _ s = true := fun w h => hts0 w (List.mem_cons_of_mem _ h)
  have hown : s.vm.findClass y.cls = some m.cls := findClass_of_methodNamed B.named
  have hlocks := B.notSynchronized
  have htab : c.exceptionTable.toList = tableOf hh := vx_table (x := y) B (hts0 _ List.mem_cons_self)
  rw [lg_entry_eq]
  exact body p e s _ m _ below meth c _ (hAo S s.heap.size) ⟨B.exec, B.bytes, hml, hown, hts, hE, fun q h => Or.inr h⟩ (name_of_methodNamed B.named B.method).1 hlocks htab rfl rfl rfl rfl (fun pc H locs ls k n r S1 hq hk1 hk2 hRR hDD hS hd => vx_ret (W.widen hk1 hk2 (W.aret B.exec B.bytes B.returns hyt (va_rf_or r) (fun t ht hW => ⟨⟨r, S1, rfl, hq, hB.mk ht hW hRR hDD⟩, hS.F ht⟩) hS.2.2 hd)))
    (fun pc H locs ls rest k n E q ce S1 hout hq hk1 hk2 hRR hDD hS h1 h2 h3 => vx_out hout hlocks h1 h2 h3 (fun t ht hW => ⟨(E, q, S1), hq, ⟨rfl, rfl, (by refine ⟨by rw [ht]; exact hRR.moved hW, fun a x hx => ?_⟩; rcases hDD a x hx with h | h; exact Or.inl h; exact Or.inr ⟨h.1, h.2.1⟩)⟩, hS.F ht⟩) hS.2.2 hk1 hk2) s.heap [] _ hR (hDom.entry hR) va_S.rf (lv_entry av hn)
theorem hoxW_V {hh : List (Nat × Nat × Nat × Nat)} {Q : hH → Prop} (hy : plainFor y = true) (hn : (lg_sl av).length ≤ maxL)
    (body : ∀ (p : Program) (e : Env) (s : State) (R : Room) (m : MethodId) (args : Array Value) (below : List Frame) (meth : Method) (c : Code) (QQ : State → Prop) (A : Nat → Prop), hCtx p s m args c G A y.cls bytes maxL → meth.name = y.name → meth.locks = false → c.exceptionTable.toList = tableOf hh → R.frames = fr → R.locals = lo → R.cells = mc → R.slots = ms →
      (∀ (pc : Nat) (H : Heap) (locs : List Loc) (ls : Array Slot) (k n : Nat) (S1 : hH), Q S1 → k ≤ mc → n ≤ ms → hRep G s S1 H → hDom A s.heap S S1 → va_S A s.heap H locs → decode bytes pc = .ok (.return_, 1) → W p l e R s m args below meth c H locs k n QQ (F0 m pc ls [])) →
      (∀ (pc : Nat) (H : Heap) (locs : List Loc) (ls : Array Slot) (rest : List Value) (k n : Nat) (E : String) (q : Nat) (ce : Cell) (S1 : hH), (∀ x ∈ c.exceptionTable.toList, covers x pc = false) → QX E q S1 → k ≤ mc → n ≤ ms → hRep G s S1 H → hDom A s.heap S S1 → va_S A s.heap H locs → H[q]? = some ce → ce.vm = .none → s.vm.findClass E = some ce.cls → vx_W p l e R s m args below meth c H locs k n QQ (F0 m pc ls rest) q) →
      ∀ (H : Heap) (locs : List Loc) (ls : Array Slot), hRep G s S H → hDom A s.heap S S → va_S A s.heap H locs → lv_has ls maxL (lv_args 0 av) → W p l e R s m args below meth c H locs 0 0 QQ (F0 m 0 ls [])) :
    hXetV l G y (wsW_ y bytes maxL none hh) fr lo mc ms av S Q QX := by
  intro sz
  refine vx_ofWH (cc := bytes) (maxL := maxL) (ret := none) (hh := hh) hy rfl ?_
  intro p e s m args below meth c s₁ B hml hv
  obtain ⟨rfl, rfl, hR, hE⟩ := hv
  have hts0 := atoms_spec (ws := (wsW_ y bytes maxL none hh)) B.pre
  have hts : ∀ w ∈ lw_all, w.before _ s = true := fun w h => hts0 w (List.mem_cons_of_mem _ h)
  have hown : s.vm.findClass y.cls = some m.cls := findClass_of_methodNamed B.named
  have hlocks := B.notSynchronized
  have htab : c.exceptionTable.toList = tableOf hh := vx_table (x := y) B (hts0 _ List.mem_cons_self)
  rw [lg_entry_eq]
  exact body p e s _ m _ below meth c _ (hAo S s.heap.size) ⟨B.exec, B.bytes, hml, hown, hts, hE, fun q h => Or.inr h⟩ (name_of_methodNamed B.named B.method).1 hlocks htab rfl rfl rfl rfl (fun pc H locs ls k n S1 hq hk1 hk2 hRR hDD hS hd => vx_ret (W.widen hk1 hk2 (W.vret B.exec B.bytes B.returns (fun t ht hW => ⟨⟨S1, rfl, hq, hB.mk ht hW hRR hDD⟩, hS.F ht⟩) hS.2.2 hd)))
    (fun pc H locs ls rest k n E q ce S1 hout hq hk1 hk2 hRR hDD hS h1 h2 h3 => vx_out hout hlocks h1 h2 h3 (fun t ht hW => ⟨(E, q, S1), hq, ⟨rfl, rfl, (by refine ⟨by rw [ht]; exact hRR.moved hW, fun a x hx => ?_⟩; rcases hDD a x hx with h | h; exact Or.inl h; exact Or.inr ⟨h.1, h.2.1⟩)⟩, hS.F ht⟩) hS.2.2 hk1 hk2) s.heap [] _ hR (hDom.entry hR) va_S.rf (lv_entry av hn)
end HXOPEN
