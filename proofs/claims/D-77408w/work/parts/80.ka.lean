/-! CLASS 1: the heap's cells over Ints; reads and writes of the map -/
set_option maxRecDepth 100000
/-- what lies beyond a row counts as 0 -/
def kz (n : Nat) (g : Nat → Int) : Nat → Int := fun k => if k < n then g k else 0
noncomputable def kI (n : Nat) (g : Nat → Int) : hE_ := .inl (0, (n, .inl (fun k => i32 (kz n g k))))
noncomputable def kB (n : Nat) (g : Nat → Int) : hE_ := .inl (2, (n, .inl (fun k => i32 (kz n g k))))
noncomputable def kJ (n : Nat) (g : Nat → Int) : hE_ := .inl (1, (n, .inr (.inl (fun k => i64 (kz n g k)))))
def kQ (t n : Nat) (f : Nat → Option Nat) : hE_ := .inl (t, (n, .inr (.inr (.inr (.inr f)))))
def kO (c : Nat) (fs : List Value) : hE_ := .inr (c, fs)
def kvI (o : Option Value) : Int32 := match o with | some (.int v) => v | _ => 0
def kvJ (o : Option Value) : Int64 := match o with | some (.long v) => v | _ => 0
def kvR (o : Option Value) : Nat := match o with | some (.ref v) => v | _ => 0
def kvN (o : Option Value) : Option Nat := match o with | some (.ref v) => some v | _ => none
def kpI (o : Option Value) : Prop := ∃ v, o = some (.int v)
def kpJ (o : Option Value) : Prop := ∃ v, o = some (.long v)
def kpR (o : Option Value) : Prop := ∃ v, o = some (.ref v)
def kpN (o : Option Value) : Prop := ∃ r, o = some (va_rf r)
theorem kvI_s (v : Int32) : kvI (some (.int v)) = v := rfl
theorem kvJ_s (v : Int64) : kvJ (some (.long v)) = v := rfl
theorem kvR_s (v : Nat) : kvR (some (.ref v)) = v := rfl
theorem kvN_s (v : Nat) : kvN (some (.ref v)) = some v := rfl
theorem kvN_0 : kvN (some .null) = none := rfl
theorem kvN_v (r : Option Nat) : kvN (some (va_rf r)) = r := by cases r <;> rfl
theorem kpI_s (v : Int32) : kpI (some (.int v)) = True := eq_true ⟨v, rfl⟩
theorem kpJ_s (v : Int64) : kpJ (some (.long v)) = True := eq_true ⟨v, rfl⟩
theorem kpR_s (v : Nat) : kpR (some (.ref v)) = True := eq_true ⟨v, rfl⟩
theorem kpN_s (v : Nat) : kpN (some (.ref v)) = True := eq_true ⟨some v, rfl⟩
theorem kpN_0 : kpN (some .null) = True := eq_true ⟨none, rfl⟩
theorem kpN_v (r : Option Nat) : kpN (some (va_rf r)) = True := eq_true ⟨r, rfl⟩
theorem kz_lt {n k : Nat} (g : Nat → Int) (h : k < n) : kz n g k = g k := if_pos h
theorem kz_ext {n : Nat} {f g : Nat → Int} (h : ∀ k, k < n → f k = g k) : kz n f = kz n g := by
  funext k
  unfold kz
  by_cases hk : k < n
  · rw [if_pos hk, if_pos hk, h k hk]
  · rw [if_neg hk, if_neg hk]
theorem kI_ext {n : Nat} {f g : Nat → Int} (h : ∀ k, k < n → f k = g k) : kI n f = kI n g := by unfold kI; rw [kz_ext h]
theorem kB_ext {n : Nat} {f g : Nat → Int} (h : ∀ k, k < n → f k = g k) : kB n f = kB n g := by unfold kB; rw [kz_ext h]
theorem kJ_ext {n : Nat} {f g : Nat → Int} (h : ∀ k, k < n → f k = g k) : kJ n f = kJ n g := by unfold kJ; rw [kz_ext h]
theorem kz_up {n j : Nat} (g : Nat → Int) (v : Int) (hj : j < n) : kz n (zup g j v) = zup (kz n g) j v := by
  funext k
  unfold kz zup
  by_cases h : k = j
  · subst h
    simp [hj]
  · simp [h]
theorem kI_new (n : Nat) : (Sum.inl (0, (n, .inl (fun _ => 0))) : hE_) = kI n (fun _ => 0) := by
  unfold kI kz
  simp only [ite_self]
  rw [i32_0]
theorem kB_new (n : Nat) : (Sum.inl (2, (n, .inl (fun _ => 0))) : hE_) = kB n (fun _ => 0) := by
  unfold kB kz
  simp only [ite_self]
  rw [i32_0]
theorem kJ_new (n : Nat) : (Sum.inl (1, (n, .inr (.inl (fun _ => 0)))) : hE_) = kJ n (fun _ => 0) := by
  unfold kJ kz
  simp only [ite_self]
  rw [i64_0]
theorem kI_new2 (n : Nat) : (Sum.inl (0, (n, .inl (fun _ => i32 0))) : hE_) = kI n (fun _ => 0) := by rw [← kI_new, i32_0]
theorem kB_new2 (n : Nat) : (Sum.inl (2, (n, .inl (fun _ => i32 0))) : hE_) = kB n (fun _ => 0) := by rw [← kB_new, i32_0]
theorem kJ_new2 (n : Nat) : (Sum.inl (1, (n, .inr (.inl (fun _ => i64 0)))) : hE_) = kJ n (fun _ => 0) := by rw [← kJ_new, i64_0]
theorem kQ_new (t n : Nat) (f : Nat → Option Nat) : (Sum.inl (t, (n, .inr (.inr (.inr (.inr f))))) : hE_) = kQ t n f := rfl
theorem kO_new (c : Nat) (fs : List Value) : (Sum.inr (c, fs) : hE_) = kO c fs := rfl
theorem hup_at (S : hH) (a : Nat) (y : hE_) : hup S a y a = some y := if_pos rfl
theorem hup_ne {S : hH} {a b : Nat} {y : hE_} (h : b ≠ a) : hup S a y b = S b := if_neg h
theorem hup_hup (S : hH) (a : Nat) (y z : hE_) : hup (hup S a y) a z = hup S a z := by
  funext q
  unfold hup
  by_cases h : q = a
  · simp [h]
  · simp [h]
theorem hup_cm {a b : Nat} (h : b ≠ a) (S : hH) (y z : hE_) : hup (hup S a y) b z = hup (hup S b z) a y := by
  funext q
  unfold hup
  by_cases h1 : q = a
  · subst h1
    have : ¬ q = b := fun e => h e.symm
    simp [this]
  · simp [h1]
theorem hup_id {S : hH} {a : Nat} {y : hE_} (h : S a = some y) : hup S a y = S := by
  funext q
  unfold hup
  by_cases h1 : q = a
  · subst h1
    simp [h]
  · simp [h1]
theorem kne {S : hH} {a b : Nat} {y : hE_} (h : S a = some y) (hb : S b = none) : a ≠ b := by
  intro e
  subst e
  rw [h] at hb
  cases hb
theorem kne2 {S : hH} {a b : Nat} {y z : hE_} (h : S a = some y) (hb : S b = some z) (hyz : y ≠ z) : a ≠ b := by
  intro e
  subst e
  rw [h] at hb
  injection hb with hb
  exact hyz hb
theorem kI_ha {S : hH} {a n : Nat} {g : Nat → Int} (h : S a = some (kI n g)) {x : Int32} : haI S a 0 x = vp_in x n := propext ⟨fun ⟨n1, f1, e, q⟩ => by rw [h] at e; cases e; exact q, fun q => ⟨_, _, h, q⟩⟩
theorem kI_ga {S : hH} {a n : Nat} {g : Nat → Int} (h : S a = some (kI n g)) {j : Nat} (hj : j < n) : gaI S a j = i32 (g j) := by unfold gaI; rw [h]; show i32 (kz n g j) = _; rw [kz_lt g hj]
theorem kI_pa {S : hH} {a n : Nat} {g : Nat → Int} (h : S a = some (kI n g)) {j : Nat} {v : Int} (hj : j < n) : paI S a j (i32 v) = hup S a (kI n (zup g j v)) := by
  unfold paI
  rw [h]
  show hup S a (.inl (0, (n, .inl (upd (fun k => i32 (kz n g k)) j (i32 v))))) = _
  unfold kI
  rw [kz_up g v hj]
  have e : upd (fun k => i32 (kz n g k)) j (i32 v) = fun k => i32 (zup (kz n g) j v k) := by
    funext q
    unfold upd zup
    by_cases e : q = j
    · simp [e]
    · simp [e]
  rw [e]
theorem kI_hA {S : hH} {a n : Nat} {g : Nat → Int} (h : S a = some (kI n g)) : hoA S a 0 = True := eq_true ⟨_, h⟩
theorem kI_ln {S : hH} {a n : Nat} {g : Nat → Int} (h : S a = some (kI n g)) : hlen S a = n := by unfold hlen; rw [h]; rfl
theorem kuI_ha (S : hH) (a n : Nat) (g : Nat → Int) (x : Int32) : haI (hup S a (kI n g)) a 0 x = vp_in x n := kI_ha (hup_at _ _ _)
theorem kuI_ga (S : hH) (a n : Nat) (g : Nat → Int) {j : Nat} (hj : j < n) : gaI (hup S a (kI n g)) a j = i32 (g j) := kI_ga (hup_at _ _ _) hj
theorem kuI_pa (S : hH) (a n : Nat) (g : Nat → Int) {j : Nat} {v : Int} (hj : j < n) : paI (hup S a (kI n g)) a j (i32 v) = hup S a (kI n (zup g j v)) := (kI_pa (hup_at _ _ _) hj).trans (hup_hup _ _ _ _)
theorem kuI_hA (S : hH) (a n : Nat) (g : Nat → Int) : hoA (hup S a (kI n g)) a 0 = True := kI_hA (hup_at _ _ _)
theorem kuI_ln (S : hH) (a n : Nat) (g : Nat → Int) : hlen (hup S a (kI n g)) a = n := kI_ln (hup_at _ _ _)
theorem kB_ha {S : hH} {a n : Nat} {g : Nat → Int} (h : S a = some (kB n g)) {x : Int32} : haI S a 2 x = vp_in x n := propext ⟨fun ⟨n1, f1, e, q⟩ => by rw [h] at e; cases e; exact q, fun q => ⟨_, _, h, q⟩⟩
theorem kB_ga {S : hH} {a n : Nat} {g : Nat → Int} (h : S a = some (kB n g)) {j : Nat} (hj : j < n) : gaI S a j = i32 (g j) := by unfold gaI; rw [h]; show i32 (kz n g j) = _; rw [kz_lt g hj]
theorem kB_pa {S : hH} {a n : Nat} {g : Nat → Int} (h : S a = some (kB n g)) {j : Nat} {v : Int} (hj : j < n) : paI S a j (i32 v) = hup S a (kB n (zup g j v)) := by
  unfold paI
  rw [h]
  show hup S a (.inl (2, (n, .inl (upd (fun k => i32 (kz n g k)) j (i32 v))))) = _
  unfold kB
  rw [kz_up g v hj]
  have e : upd (fun k => i32 (kz n g k)) j (i32 v) = fun k => i32 (zup (kz n g) j v k) := by
    funext q
    unfold upd zup
    by_cases e : q = j
    · simp [e]
    · simp [e]
  rw [e]
theorem kB_hA {S : hH} {a n : Nat} {g : Nat → Int} (h : S a = some (kB n g)) : hoA S a 2 = True := eq_true ⟨_, h⟩
theorem kB_ln {S : hH} {a n : Nat} {g : Nat → Int} (h : S a = some (kB n g)) : hlen S a = n := by unfold hlen; rw [h]; rfl
theorem kuB_ha (S : hH) (a n : Nat) (g : Nat → Int) (x : Int32) : haI (hup S a (kB n g)) a 2 x = vp_in x n := kB_ha (hup_at _ _ _)
theorem kuB_ga (S : hH) (a n : Nat) (g : Nat → Int) {j : Nat} (hj : j < n) : gaI (hup S a (kB n g)) a j = i32 (g j) := kB_ga (hup_at _ _ _) hj
theorem kuB_pa (S : hH) (a n : Nat) (g : Nat → Int) {j : Nat} {v : Int} (hj : j < n) : paI (hup S a (kB n g)) a j (i32 v) = hup S a (kB n (zup g j v)) := (kB_pa (hup_at _ _ _) hj).trans (hup_hup _ _ _ _)
theorem kuB_hA (S : hH) (a n : Nat) (g : Nat → Int) : hoA (hup S a (kB n g)) a 2 = True := kB_hA (hup_at _ _ _)
theorem kuB_ln (S : hH) (a n : Nat) (g : Nat → Int) : hlen (hup S a (kB n g)) a = n := kB_ln (hup_at _ _ _)
theorem kJ_ha {S : hH} {a n : Nat} {g : Nat → Int} (h : S a = some (kJ n g)) {x : Int32} : haJ S a 1 x = vp_in x n := propext ⟨fun ⟨n1, f1, e, q⟩ => by rw [h] at e; cases e; exact q, fun q => ⟨_, _, h, q⟩⟩
theorem kJ_ga {S : hH} {a n : Nat} {g : Nat → Int} (h : S a = some (kJ n g)) {j : Nat} (hj : j < n) : gaJ S a j = i64 (g j) := by unfold gaJ; rw [h]; show i64 (kz n g j) = _; rw [kz_lt g hj]
theorem kJ_pa {S : hH} {a n : Nat} {g : Nat → Int} (h : S a = some (kJ n g)) {j : Nat} {v : Int} (hj : j < n) : paJ S a j (i64 v) = hup S a (kJ n (zup g j v)) := by
  unfold paJ
  rw [h]
  show hup S a (.inl (1, (n, .inr (.inl (vp_updL (fun k => i64 (kz n g k)) j (i64 v)))))) = _
  unfold kJ
  rw [kz_up g v hj]
  have e : vp_updL (fun k => i64 (kz n g k)) j (i64 v) = fun k => i64 (zup (kz n g) j v k) := by
    funext q
    unfold vp_updL zup
    by_cases e : q = j
    · simp [e]
    · simp [e]
  rw [e]
theorem kJ_hA {S : hH} {a n : Nat} {g : Nat → Int} (h : S a = some (kJ n g)) : hoA S a 1 = True := eq_true ⟨_, h⟩
theorem kJ_ln {S : hH} {a n : Nat} {g : Nat → Int} (h : S a = some (kJ n g)) : hlen S a = n := by unfold hlen; rw [h]; rfl
theorem kuJ_ha (S : hH) (a n : Nat) (g : Nat → Int) (x : Int32) : haJ (hup S a (kJ n g)) a 1 x = vp_in x n := kJ_ha (hup_at _ _ _)
theorem kuJ_ga (S : hH) (a n : Nat) (g : Nat → Int) {j : Nat} (hj : j < n) : gaJ (hup S a (kJ n g)) a j = i64 (g j) := kJ_ga (hup_at _ _ _) hj
theorem kuJ_pa (S : hH) (a n : Nat) (g : Nat → Int) {j : Nat} {v : Int} (hj : j < n) : paJ (hup S a (kJ n g)) a j (i64 v) = hup S a (kJ n (zup g j v)) := (kJ_pa (hup_at _ _ _) hj).trans (hup_hup _ _ _ _)
theorem kuJ_hA (S : hH) (a n : Nat) (g : Nat → Int) : hoA (hup S a (kJ n g)) a 1 = True := kJ_hA (hup_at _ _ _)
theorem kuJ_ln (S : hH) (a n : Nat) (g : Nat → Int) : hlen (hup S a (kJ n g)) a = n := kJ_ln (hup_at _ _ _)
theorem kQ_ha {S : hH} {a t n : Nat} {f : Nat → Option Nat} (h : S a = some (kQ t n f)) {x : Int32} : haQ S a t x = vp_in x n := propext ⟨fun ⟨n1, f1, e, q⟩ => by rw [h] at e; cases e; exact q, fun q => ⟨_, _, h, q⟩⟩
theorem kQ_ga {S : hH} {a t n : Nat} {f : Nat → Option Nat} (h : S a = some (kQ t n f)) {j : Nat} : gaQ S a j = f j := by unfold gaQ; rw [h]; rfl
theorem kQ_pa {S : hH} {a t n : Nat} {f : Nat → Option Nat} (h : S a = some (kQ t n f)) {j : Nat} {v : Option Nat} : paQ S a j v = hup S a (kQ t n (va_up f j v)) := by unfold paQ; rw [h]; rfl
theorem kQ_hA {S : hH} {a t n : Nat} {f : Nat → Option Nat} (h : S a = some (kQ t n f)) : hoA S a t = True := eq_true ⟨_, h⟩
theorem kQ_ln {S : hH} {a t n : Nat} {f : Nat → Option Nat} (h : S a = some (kQ t n f)) : hlen S a = n := by unfold hlen; rw [h]; rfl
theorem kuQ_ha (S : hH) (a t n : Nat) (f : Nat → Option Nat) (x : Int32) : haQ (hup S a (kQ t n f)) a t x = vp_in x n := kQ_ha (hup_at _ _ _)
theorem kuQ_ga (S : hH) (a t n : Nat) (f : Nat → Option Nat) (j : Nat) : gaQ (hup S a (kQ t n f)) a j = f j := kQ_ga (hup_at _ _ _)
theorem kuQ_pa (S : hH) (a t n : Nat) (f : Nat → Option Nat) (j : Nat) (v : Option Nat) : paQ (hup S a (kQ t n f)) a j v = hup S a (kQ t n (va_up f j v)) := (kQ_pa (hup_at _ _ _)).trans (hup_hup _ _ _ _)
theorem kuQ_hA (S : hH) (a t n : Nat) (f : Nat → Option Nat) : hoA (hup S a (kQ t n f)) a t = True := kQ_hA (hup_at _ _ _)
theorem kuQ_ln (S : hH) (a t n : Nat) (f : Nat → Option Nat) : hlen (hup S a (kQ t n f)) a = n := kQ_ln (hup_at _ _ _)
theorem kO_fI {S : hH} {a c : Nat} {fs : List Value} (h : S a = some (kO c fs)) {k : Nat} : hfI S a k = kvI fs[k]? := by unfold hfI; rw [h]; rfl
theorem kuO_fI (S : hH) (a c : Nat) (fs : List Value) (k : Nat) : hfI (hup S a (kO c fs)) a k = kvI fs[k]? := kO_fI (hup_at _ _ _)
theorem kO_oI {S : hH} {a c : Nat} {fs : List Value} (h : S a = some (kO c fs)) {d k : Nat} : hoI S a d k = (c = d ∧ kpI fs[k]?) := propext ⟨fun ⟨f1, v1, e, q⟩ => by rw [h] at e; cases e; exact ⟨rfl, v1, q⟩, fun ⟨e, v1, q⟩ => by subst e; exact ⟨fs, v1, h, q⟩⟩
theorem kuO_oI (S : hH) (a c : Nat) (fs : List Value) (d k : Nat) : hoI (hup S a (kO c fs)) a d k = (c = d ∧ kpI fs[k]?) := kO_oI (hup_at _ _ _)
theorem kO_fJ {S : hH} {a c : Nat} {fs : List Value} (h : S a = some (kO c fs)) {k : Nat} : hfJ S a k = kvJ fs[k]? := by unfold hfJ; rw [h]; rfl
theorem kuO_fJ (S : hH) (a c : Nat) (fs : List Value) (k : Nat) : hfJ (hup S a (kO c fs)) a k = kvJ fs[k]? := kO_fJ (hup_at _ _ _)
theorem kO_oJ {S : hH} {a c : Nat} {fs : List Value} (h : S a = some (kO c fs)) {d k : Nat} : hoJ S a d k = (c = d ∧ kpJ fs[k]?) := propext ⟨fun ⟨f1, v1, e, q⟩ => by rw [h] at e; cases e; exact ⟨rfl, v1, q⟩, fun ⟨e, v1, q⟩ => by subst e; exact ⟨fs, v1, h, q⟩⟩
theorem kuO_oJ (S : hH) (a c : Nat) (fs : List Value) (d k : Nat) : hoJ (hup S a (kO c fs)) a d k = (c = d ∧ kpJ fs[k]?) := kO_oJ (hup_at _ _ _)
theorem kO_fR {S : hH} {a c : Nat} {fs : List Value} (h : S a = some (kO c fs)) {k : Nat} : hfR S a k = kvR fs[k]? := by unfold hfR; rw [h]; rfl
theorem kuO_fR (S : hH) (a c : Nat) (fs : List Value) (k : Nat) : hfR (hup S a (kO c fs)) a k = kvR fs[k]? := kO_fR (hup_at _ _ _)
theorem kO_oR {S : hH} {a c : Nat} {fs : List Value} (h : S a = some (kO c fs)) {d k : Nat} : hoR S a d k = (c = d ∧ kpR fs[k]?) := propext ⟨fun ⟨f1, v1, e, q⟩ => by rw [h] at e; cases e; exact ⟨rfl, v1, q⟩, fun ⟨e, v1, q⟩ => by subst e; exact ⟨fs, v1, h, q⟩⟩
theorem kuO_oR (S : hH) (a c : Nat) (fs : List Value) (d k : Nat) : hoR (hup S a (kO c fs)) a d k = (c = d ∧ kpR fs[k]?) := kO_oR (hup_at _ _ _)
theorem kO_fN {S : hH} {a c : Nat} {fs : List Value} (h : S a = some (kO c fs)) {k : Nat} : hfN S a k = kvN fs[k]? := by unfold hfN; rw [h]; rfl
theorem kuO_fN (S : hH) (a c : Nat) (fs : List Value) (k : Nat) : hfN (hup S a (kO c fs)) a k = kvN fs[k]? := kO_fN (hup_at _ _ _)
theorem kO_oN {S : hH} {a c : Nat} {fs : List Value} (h : S a = some (kO c fs)) {d k : Nat} : hoN S a d k = (c = d ∧ kpN fs[k]?) := propext ⟨fun ⟨f1, v1, e, q⟩ => by rw [h] at e; cases e; exact ⟨rfl, v1, q⟩, fun ⟨e, v1, q⟩ => by subst e; exact ⟨fs, v1, h, q⟩⟩
theorem kuO_oN (S : hH) (a c : Nat) (fs : List Value) (d k : Nat) : hoN (hup S a (kO c fs)) a d k = (c = d ∧ kpN fs[k]?) := kO_oN (hup_at _ _ _)
theorem kO_oC {S : hH} {a c : Nat} {fs : List Value} (h : S a = some (kO c fs)) {d : Nat} : hoC S a d = (c = d) := propext ⟨fun ⟨f1, e⟩ => by rw [h] at e; cases e; rfl, fun e => by subst e; exact ⟨fs, h⟩⟩
theorem kuO_oC (S : hH) (a c : Nat) (fs : List Value) (d : Nat) : hoC (hup S a (kO c fs)) a d = (c = d) := kO_oC (hup_at _ _ _)
theorem kO_oP {S : hH} {a c : Nat} {fs : List Value} (h : S a = some (kO c fs)) {d k : Nat} : hoP S a d k = (c = d ∧ k < fs.length) := propext ⟨fun ⟨f1, e, q⟩ => by rw [h] at e; cases e; exact ⟨rfl, q⟩, fun ⟨e, q⟩ => by subst e; exact ⟨fs, h, q⟩⟩
theorem kuO_oP (S : hH) (a c : Nat) (fs : List Value) (d k : Nat) : hoP (hup S a (kO c fs)) a d k = (c = d ∧ k < fs.length) := kO_oP (hup_at _ _ _)
theorem kO_pF {S : hH} {a c : Nat} {fs : List Value} (h : S a = some (kO c fs)) {k : Nat} {v : Value} : hpF S a k v = hup S a (kO c (fs.set k v)) := by unfold hpF; rw [h]; rfl
theorem kuO_pF (S : hH) (a c : Nat) (fs : List Value) (k : Nat) (v : Value) : hpF (hup S a (kO c fs)) a k v = hup S a (kO c (fs.set k v)) := (kO_pF (hup_at _ _ _)).trans (hup_hup _ _ _ _)
theorem kn_haI {S : hH} {a b : Nat} {y : hE_} (h : b ≠ a) (t : Nat) (x : Int32) : haI (hup S a y) b t x = haI S b t x := by unfold haI; rw [hup_ne h]
theorem kn_haJ {S : hH} {a b : Nat} {y : hE_} (h : b ≠ a) (t : Nat) (x : Int32) : haJ (hup S a y) b t x = haJ S b t x := by unfold haJ; rw [hup_ne h]
theorem kn_haQ {S : hH} {a b : Nat} {y : hE_} (h : b ≠ a) (t : Nat) (x : Int32) : haQ (hup S a y) b t x = haQ S b t x := by unfold haQ; rw [hup_ne h]
theorem kn_gaI {S : hH} {a b : Nat} {y : hE_} (h : b ≠ a) (j : Nat) : gaI (hup S a y) b j = gaI S b j := by unfold gaI; rw [hup_ne h]
theorem kn_gaJ {S : hH} {a b : Nat} {y : hE_} (h : b ≠ a) (j : Nat) : gaJ (hup S a y) b j = gaJ S b j := by unfold gaJ; rw [hup_ne h]
theorem kn_gaQ {S : hH} {a b : Nat} {y : hE_} (h : b ≠ a) (j : Nat) : gaQ (hup S a y) b j = gaQ S b j := by unfold gaQ; rw [hup_ne h]
theorem kn_hoA {S : hH} {a b : Nat} {y : hE_} (h : b ≠ a) (t : Nat) : hoA (hup S a y) b t = hoA S b t := by unfold hoA; rw [hup_ne h]
theorem kn_hlen {S : hH} {a b : Nat} {y : hE_} (h : b ≠ a)  : hlen (hup S a y) b  = hlen S b  := by unfold hlen; rw [hup_ne h]
theorem kn_hfI {S : hH} {a b : Nat} {y : hE_} (h : b ≠ a) (k : Nat) : hfI (hup S a y) b k = hfI S b k := by unfold hfI; rw [hup_ne h]
theorem kn_hfJ {S : hH} {a b : Nat} {y : hE_} (h : b ≠ a) (k : Nat) : hfJ (hup S a y) b k = hfJ S b k := by unfold hfJ; rw [hup_ne h]
theorem kn_hfR {S : hH} {a b : Nat} {y : hE_} (h : b ≠ a) (k : Nat) : hfR (hup S a y) b k = hfR S b k := by unfold hfR; rw [hup_ne h]
theorem kn_hfN {S : hH} {a b : Nat} {y : hE_} (h : b ≠ a) (k : Nat) : hfN (hup S a y) b k = hfN S b k := by unfold hfN; rw [hup_ne h]
theorem kn_hoI {S : hH} {a b : Nat} {y : hE_} (h : b ≠ a) (d k : Nat) : hoI (hup S a y) b d k = hoI S b d k := by unfold hoI; rw [hup_ne h]
theorem kn_hoJ {S : hH} {a b : Nat} {y : hE_} (h : b ≠ a) (d k : Nat) : hoJ (hup S a y) b d k = hoJ S b d k := by unfold hoJ; rw [hup_ne h]
theorem kn_hoR {S : hH} {a b : Nat} {y : hE_} (h : b ≠ a) (d k : Nat) : hoR (hup S a y) b d k = hoR S b d k := by unfold hoR; rw [hup_ne h]
theorem kn_hoN {S : hH} {a b : Nat} {y : hE_} (h : b ≠ a) (d k : Nat) : hoN (hup S a y) b d k = hoN S b d k := by unfold hoN; rw [hup_ne h]
theorem kn_hoC {S : hH} {a b : Nat} {y : hE_} (h : b ≠ a) (d : Nat) : hoC (hup S a y) b d = hoC S b d := by unfold hoC; rw [hup_ne h]
theorem kn_hoP {S : hH} {a b : Nat} {y : hE_} (h : b ≠ a) (d k : Nat) : hoP (hup S a y) b d k = hoP S b d k := by unfold hoP; rw [hup_ne h]
theorem kn_paI {S : hH} {a b : Nat} {y : hE_} (h : b ≠ a) (j : Nat) (x : Int32) : paI (hup S a y) b j x = hup (paI S b j x) a y := by
  unfold paI
  rw [hup_ne h]
  split
  · exact hup_cm h _ _ _
  · rfl
theorem kn_paJ {S : hH} {a b : Nat} {y : hE_} (h : b ≠ a) (j : Nat) (x : Int64) : paJ (hup S a y) b j x = hup (paJ S b j x) a y := by
  unfold paJ
  rw [hup_ne h]
  split
  · exact hup_cm h _ _ _
  · rfl
theorem kn_paQ {S : hH} {a b : Nat} {y : hE_} (h : b ≠ a) (j : Nat) (x : Option Nat) : paQ (hup S a y) b j x = hup (paQ S b j x) a y := by
  unfold paQ
  rw [hup_ne h]
  split
  · exact hup_cm h _ _ _
  · rfl
theorem kn_hpF {S : hH} {a b : Nat} {y : hE_} (h : b ≠ a) (k : Nat) (x : Value) : hpF (hup S a y) b k x = hup (hpF S b k x) a y := by
  unfold hpF
  rw [hup_ne h]
  split
  · exact hup_cm h _ _ _
  · rfl
theorem zkd {k d : Nat} (hd : d ≤ k) (h : k < 2147483648) : (i32 ((k : Int) - (d : Int))).toNatClampNeg = k - d := by
  rw [i32_nat (by omega) (by omega)]; omega
theorem kJ_cpy (g0 g1 : Nat → Int) : (Sum.inl (1, (9, .inr (.inl (va_cpy (fun k => i64 (kz 9 g0 k)) (fun k => i64 (kz 9 g1 k)) 0 0 9)))) : hE_) = kJ 9 g0 := by
  have e : va_cpy (fun k => i64 (kz 9 g0 k)) (fun k => i64 (kz 9 g1 k)) 0 0 9 = fun k => i64 (kz 9 g0 k) := by
    funext q
    unfold va_cpy
    by_cases hq : q < 9
    · rw [if_pos (by omega), show 0 + (q - 0) = q from by omega]
    · rw [if_neg (by omega)]
      show i64 (kz 9 g1 q) = i64 (kz 9 g0 q)
      unfold kz
      rw [if_neg hq, if_neg hq]
  rw [e]
  rfl
theorem kI_cpy (m : Nat) (g0 g1 : Nat → Int) : (Sum.inl (0, (m, .inl (va_cpy (fun k => i32 (kz m g0 k)) (fun k => i32 (kz m g1 k)) 0 0 m))) : hE_) = kI m g0 := by
  have e : va_cpy (fun k => i32 (kz m g0 k)) (fun k => i32 (kz m g1 k)) 0 0 m = fun k => i32 (kz m g0 k) := by
    funext q
    unfold va_cpy
    by_cases hq : q < m
    · rw [if_pos (by omega), show 0 + (q - 0) = q from by omega]
    · rw [if_neg (by omega)]
      show i32 (kz m g1 q) = i32 (kz m g0 q)
      unfold kz
      rw [if_neg hq, if_neg hq]
  rw [e]
  rfl
/-! frames: what lies elsewhere is left -/
def kF (M : Nat → Prop) (S S1 : hH) : Prop := ∀ (q : Nat) (y : hE_), S q = some y → ¬ M q → S1 q = some y
theorem kF.refl {M : Nat → Prop} (S : hH) : kF M S S := fun _ _ h _ => h
theorem kF.trans {M M1 M2 : Nat → Prop} {S S1 S2 : hH} (h : kF M1 S S1) (h' : kF M2 S1 S2) (h1 : ∀ q y, S q = some y → ¬ M q → ¬ M1 q) (h2 : ∀ q y, S q = some y → ¬ M q → ¬ M2 q) : kF M S S2 :=
  fun q y hq hm => h' q y (h q y hq (h1 q y hq hm)) (h2 q y hq hm)
theorem kF.trans' {M : Nat → Prop} {S S1 S2 : hH} (h : kF M S S1) (h' : kF M S1 S2) : kF M S S2 :=
  h.trans h' (fun _ _ _ hm => hm) (fun _ _ _ hm => hm)
theorem kF.mono {M M1 : Nat → Prop} {S S1 : hH} (h : kF M1 S S1) (h1 : ∀ q, M1 q → M q) : kF M S S1 :=
  fun q y hq hm => h q y hq (fun z => hm (h1 q z))
theorem kF.up {M : Nat → Prop} (S : hH) {a : Nat} {y : hE_} (h : M a) : kF M S (hup S a y) := fun q z hq hm => by
  rw [hup_ne (fun e => hm (by rw [e]; exact h))]
  exact hq
theorem kF.new {M : Nat → Prop} {S : hH} {a : Nat} {y : hE_} (h : S a = none) : kF M S (hup S a y) := fun q z hq hm => by
  rw [hup_ne (kne hq h)]
  exact hq
theorem kF.at {M : Nat → Prop} {S S1 : hH} (h : kF M S S1) {a : Nat} {y : hE_} (ha : S a = some y) (hm : ¬ M a) : S1 a = some y := h a y ha hm
