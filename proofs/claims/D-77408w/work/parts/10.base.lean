/-! THE MODEL's WORLD: its object and its arrays as one state; rows of one instruction over it -/
set_option maxRecDepth 100000
/-- the model's state: int fields, the long field, int arrays, long arrays, by the field's number -/
abbrev mS : Type := (Nat → Int32) × Int64 × (Nat → Nat → Int32) × (Nat → Nat → Int64)
def mgi (σ : mS) (k : Nat) : Int32 := σ.1 k
def mgw (σ : mS) : Int64 := σ.2.1
def mga (σ : mS) (k : Nat) : Nat → Int32 := σ.2.2.1 k
def mgl (σ : mS) (k : Nat) : Nat → Int64 := σ.2.2.2 k
def mpi (σ : mS) (k : Nat) (v : Int32) : mS := (fun q => if q = k then v else σ.1 q, σ.2)
def mpw (σ : mS) (v : Int64) : mS := (σ.1, v, σ.2.2)
def mpa (σ : mS) (k j : Nat) (v : Int32) : mS := (σ.1, σ.2.1, fun q => if q = k then upd (σ.2.2.1 q) j v else σ.2.2.1 q, σ.2.2.2)
def mpl (σ : mS) (k j : Nat) (v : Int64) : mS := (σ.1, σ.2.1, σ.2.2.1, fun q => if q = k then vp_updL (σ.2.2.2 q) j v else σ.2.2.2 q)
def mkd (k : Nat) : Nat := [0, 0, 3, 1, 1, 0, 0, 2, 2, 2, 1, 0, 0, 1, 1, 1, 1, 1, 0, 2, 0, 0, 0, 0, 1, 1, 1, 1, 1, 1, 1, 1, 1, 1, 1, 1, 1, 1, 1, 1, 1, 1, 1, 1, 1, 1, 1, 1, 1, 0, 1, 1, 1, 1, 1, 1, 0, 2, 1, 1, 1, 0, 1, 0, 1, 1, 1].getD k 9
def mlen (k : Nat) : Nat := [0, 0, 0, 45, 80, 0, 0, 9, 24, 369, 9, 0, 0, 9, 9, 81, 9, 9, 0, 9, 0, 0, 0, 0, 40, 40, 40, 40, 40, 40, 40, 360, 40, 40, 40, 280, 64, 64, 64, 64, 64, 64, 448, 576, 20, 20, 20, 20, 20, 0, 8, 8, 8, 8, 8, 7, 0, 9, 8, 8, 8, 0, 160, 0, 4, 4, 160].getD k 0
def mV (ρ : Nat → Nat) (σ : mS) (k : Nat) : Value := if mkd k = 0 then .int (mgi σ k) else if mkd k = 3 then .long (mgw σ) else .ref (ρ k)
abbrev mG : Type := ClassId × (Nat → Nat) × ClassId × ClassId
def mE (G : mG) (U : State) : Prop := u_Kn U RX2 TX2 67 G.1 G.2.1 ∧ ArrOfT U G.2.2.1 .int ∧ ArrOfT U G.2.2.2 .long
theorem mE.moved {G : mG} {u U : State} (hvm : u.vm.Alike U.vm) (h : mE G u) : mE G U := ⟨u_Kn_moved hvm h.1, arrOfT_moved hvm h.2.1, arrOfT_moved hvm h.2.2⟩
def mR (G : mG) (o : Nat) (ρ : Nat → Nat) (σ : mS) (H : Heap) : Prop :=
  t_OB o G.1 67 G.2.1 H (mV ρ σ) ∧ (∀ k, k < 67 → mkd k = 1 → H[ρ k]? = some (vp_cell G.2.2.1 (mlen k, .inl (mga σ k)))) ∧ (∀ k, k < 67 → mkd k = 2 → H[ρ k]? = some (vp_cell G.2.2.2 (mlen k, .inr (.inl (mgl σ k)))))
/-- the cells are apart -/
def mAp (o : Nat) (ρ : Nat → Nat) : Prop := (∀ k, k < 67 → (mkd k = 1 ∨ mkd k = 2) → ρ k ≠ o) ∧ ∀ j k, j < 67 → k < 67 → (mkd j = 1 ∨ mkd j = 2) → (mkd k = 1 ∨ mkd k = 2) → ρ j = ρ k → j = k
def mA (o : Nat) (ρ : Nat → Nat) : Nat → Prop := fun q => q = o ∨ ∃ k, k < 67 ∧ (mkd k = 1 ∨ mkd k = 2) ∧ q = ρ k
theorem mR.kept {G : mG} {o : Nat} {ρ : Nat → Nat} {σ : mS} {H H1 : Heap} (h : mR G o ρ σ H) (hq : ∀ q, mA o ρ q → H1[q]? = H[q]?) : mR G o ρ σ H1 :=
  ⟨h.1.kept (hq o (Or.inl rfl)), fun k hk hm => (hq _ (Or.inr ⟨k, hk, Or.inl hm, rfl⟩)).trans (h.2.1 k hk hm), fun k hk hm => (hq _ (Or.inr ⟨k, hk, Or.inr hm, rfl⟩)).trans (h.2.2 k hk hm)⟩
theorem mR.lt {G : mG} {o : Nat} {ρ : Nat → Nat} {σ : mS} {H : Heap} (h : mR G o ρ σ H) : ∀ q, mA o ρ q → q < H.size := by
  intro q hq
  rcases hq with rfl | ⟨k, hk, hm, rfl⟩
  · obtain ⟨cell, q1, -⟩ := h.1
    exact (Array.getElem?_eq_some_iff.mp q1).1
  · rcases hm with hm | hm
    · exact (Array.getElem?_eq_some_iff.mp (h.2.1 k hk hm)).1
    · exact (Array.getElem?_eq_some_iff.mp (h.2.2 k hk hm)).1
theorem mV_puti {ρ : Nat → Nat} {σ : mS} {k : Nat} {x : Int32} (hk : mkd k = 0) (j : Nat) : updV (mV ρ σ) k (.int x) j = mV ρ (mpi σ k x) j := by
  by_cases h : j = k
  · subst h
    simp [updV, mV, hk, mgi, mpi]
  · simp [updV, mV, mgi, mpi, mgw, h]
theorem mV_putw {ρ : Nat → Nat} {σ : mS} {x : Int64} (j : Nat) (hj : j < 67) : updV (mV ρ σ) 2 (.long x) j = mV ρ (mpw σ x) j := by
  by_cases h : j = 2
  · subst h
    simp [updV, mV, mkd, mgw, mpw]
  · have h3 : ¬ mkd j = 3 := by
      have : ∀ j, j < 67 → j ≠ 2 → ¬ mkd j = 3 := by decide
      exact this j hj h
    simp [updV, mV, mgi, mpw, h, h3]
theorem mV_arr {ρ : Nat → Nat} {σ : mS} (k i : Nat) (x : Int32) (j : Nat) : mV ρ σ j = mV ρ (mpa σ k i x) j := rfl
theorem mV_arl {ρ : Nat → Nat} {σ : mS} (k i : Nat) (x : Int64) (j : Nat) : mV ρ σ j = mV ρ (mpl σ k i x) j := rfl
section MROWS
variable {p : Program} {l : Launch} {e : Env} {R : Room} {s : State} {m : MethodId} {args : Array Value} {below : List Frame} {meth : Method} {c : Code} {H : Heap} {locs : List Loc} {cells slots : Nat} {Q : State → Prop}
variable {cc : ByteArray} {pc : Nat} {ls : Array Slot} {rest : List Value} {G : mG} {o : Nat} {ρ : Nat → Nat} {σ : mS} {H0 : Heap} {index : Nat}
theorem mm_apart (hts : ∀ w ∈ lw_all, w.before args s = true) (hE : mE G s) : ∀ x y, x < 67 → y < 67 → x ≠ y → G.2.1 x ≠ G.2.1 y := by
  intro x y hx hy hne
  obtain ⟨hS, -⟩ := hE.1
  obtain ⟨_, _, _, fa, hia, ea⟩ := hS x hx
  obtain ⟨_, _, _, fb, hib, eb⟩ := hS y hy
  rw [← ea, ← eb]
  refine u_apart (u_lays hts in_X2 hx) (u_lays hts in_X2 hy) hia hib ?_
  rw [(State.fieldFound?_type hia (tyX2_ok x hx)).1, (State.fieldFound?_type hib (tyX2_ok y hy)).1]
  exact nmX2 x hx y hy hne
theorem mm_get (hexec : p.tables.exec = Jvm.exec) (hb : c.code = cc) (hts : ∀ w ∈ lw_all, w.before args s = true) (hown : s.vm.findClass RX2 = some m.cls) (hE : mE G s) (hR : mR G o ρ σ H) (k : Nat) (hk : k < 67) (hlink : Cond.fieldLink RX2 index (TX2 k).1 (TX2 k).2.1 (TX2 k).2.2.1 ∈ lw_all) {v : Value} (hv : mV ρ σ k = v) (hdg : decode cc pc = .ok (.getfield index, 3))
    (kk : W p l e R s m args below meth c H locs cells slots Q (F0 m (pc + 3) ls (v :: rest))) : W p l e R s m args below meth c H locs cells slots Q (F0 m pc ls (.ref o :: rest)) := by
  obtain ⟨cell, q1, q2, q3, q4⟩ := hR.1
  obtain ⟨hS, hfc, kC, hkC, hkind⟩ := hE.1
  obtain ⟨cf, kf, fi, f, hi, hsl⟩ := hS k hk
  refine W.getf hexec hb hown (hts _ hlink) hi (u_facts hfc hkC (u_lays hts in_X2 hk) hi).1 q1 (by rw [q3]; exact fun h => by cases h) (v := v) ?_ rfl rfl hdg kk
  rw [hsl, q4 k hk, hv]
theorem mm_put (hexec : p.tables.exec = Jvm.exec) (hb : c.code = cc) (hts : ∀ w ∈ lw_all, w.before args s = true) (hown : s.vm.findClass RX2 = some m.cls) (hE : mE G s) (hap : mAp o ρ) (hR : mR G o ρ σ H) (hS0 : va_S (mA o ρ) H0 H locs) (k : Nat) (hk : k < 67) (hlink : Cond.fieldLink RX2 index (TX2 k).1 (TX2 k).2.1 (TX2 k).2.2.1 ∈ lw_all) (hfin : (TX2 k).2.2.2 = false) {ty : FieldType} {v : Value} (hd : parseFieldDescriptor (TX2 k).2.2.1 = some ty) (hn : narrow ty v = v) (hfit : fits ty v = true)
    {τ : mS} (hτ : ∀ j, j < 67 → updV (mV ρ σ) k v j = mV ρ τ j) (ha : mga τ = mga σ) (hl : mgl τ = mgl σ) (hdg : decode cc pc = .ok (.putfield index, 3))
    (kk : ∀ (H1 : Heap) (locs1 : List Loc), mR G o ρ τ H1 → va_S (mA o ρ) H0 H1 locs1 → W p l e R s m args below meth c H1 locs1 cells slots Q (F0 m (pc + 3) ls rest)) : W p l e R s m args below meth c H locs cells slots Q (F0 m pc ls (v :: .ref o :: rest)) := by
  have hiS := mm_apart hts hE
  obtain ⟨cell, q1, q2, q3, q4⟩ := hR.1
  obtain ⟨hS, hfc, kC, hkC, hkind⟩ := hE.1
  obtain ⟨cf, kf, fi, f, hi, hsl⟩ := hS k hk
  have hlay := hts _ (in_X2 _ (u_in_lay hk))
  unfold u_lay at hlay
  rw [if_neg (by rw [hfin]; decide)] at hlay
  have hst := (u_facts hfc hkC (u_lays hts in_X2 hk) hi).1
  have h6 := u_store hfc hkC hkind hlay hi hd hn hfit
  refine W.putK hexec hb (f := f) ⟨hown, hts _ hlink, ⟨_, _, _, hi⟩, hst⟩ (by rw [q2]; exact h6) q1 q3 (by rw [hsl]; exact k2_hasslot (q4 k hk)) rfl rfl hdg fun H' e1 e2 e3 => ?_
  rw [hsl] at e1 ⊢
  refine kk H' _ ⟨t_OB.to (V := updV (mV ρ σ) k v) ⟨_, e1, q2, q3, t_set q4 hiS hk v⟩ hτ, fun j hj hm => ?_, fun j hj hm => ?_⟩ (hS0.put e2 e3 (Or.inl rfl))
  · rw [e3 _ (hap.1 j hj (Or.inl hm)), ha]
    exact hR.2.1 j hj hm
  · rw [e3 _ (hap.1 j hj (Or.inr hm)), hl]
    exact hR.2.2 j hj hm
theorem mm_iald (hexec : p.tables.exec = Jvm.exec) (hb : c.code = cc) (hE : mE G s) (hR : mR G o ρ σ H) (k : Nat) (hk : k < 67) (hm : mkd k = 1) {n : Nat} (hn : mlen k = n) {i : Int32} (hin : vp_in i n) (hdg : decode cc pc = .ok (.iaload, 1))
    (kk : W p l e R s m args below meth c H locs cells slots Q (F0 m (pc + 1) ls (.int (mga σ k i.toNatClampNeg) :: rest))) : W p l e R s m args below meth c H locs cells slots Q (F0 m pc ls (.int i :: .ref (ρ k) :: rest)) := by
  subst hn
  have hlt : i.toNatClampNeg < mlen k := Nat.not_le.mp fun q => hin (Or.inr q)
  exact W.iald (v := .int (mga σ k i.toNatClampNeg)) hexec hb (hR.2.1 k hk hm) (hE.2.1 (mlen k) (fun j => .int (mga σ k j))) (fun q => by cases q) (by show ¬ (i < 0 ∨ (arrV _ _ _).slots.size ≤ _); rw [arrV_size]; exact hin) (by show (arrV _ _ _).slots[_]? = _; rw [arrV_read _ _ hlt]) rfl rfl hdg kk
theorem mm_lald (hexec : p.tables.exec = Jvm.exec) (hb : c.code = cc) (hE : mE G s) (hR : mR G o ρ σ H) (k : Nat) (hk : k < 67) (hm : mkd k = 2) {n : Nat} (hn : mlen k = n) {i : Int32} (hin : vp_in i n) (hdg : decode cc pc = .ok (.laload, 1))
    (kk : W p l e R s m args below meth c H locs cells slots Q (F0 m (pc + 1) ls (.long (mgl σ k i.toNatClampNeg) :: rest))) : W p l e R s m args below meth c H locs cells slots Q (F0 m pc ls (.int i :: .ref (ρ k) :: rest)) := by
  subst hn
  have hlt : i.toNatClampNeg < mlen k := Nat.not_le.mp fun q => hin (Or.inr q)
  exact W.lald (v := .long (mgl σ k i.toNatClampNeg)) hexec hb (hR.2.2 k hk hm) (hE.2.2 (mlen k) (fun j => .long (mgl σ k j))) (fun q => by cases q) (by show ¬ (i < 0 ∨ (arrV _ _ _).slots.size ≤ _); rw [arrV_size]; exact hin) (by show (arrV _ _ _).slots[_]? = _; rw [arrV_read _ _ hlt]) rfl rfl hdg kk
theorem mm_iast (hexec : p.tables.exec = Jvm.exec) (hb : c.code = cc) (hE : mE G s) (hap : mAp o ρ) (hR : mR G o ρ σ H) (hS : va_S (mA o ρ) H0 H locs) (k : Nat) (hk : k < 67) (hm : mkd k = 1) {n : Nat} (hn : mlen k = n) {i x : Int32} (hin : vp_in i n) (hdg : decode cc pc = .ok (.iastore, 1))
    (kk : ∀ (τ : mS), τ = mpa σ k i.toNatClampNeg x → ∀ (H1 : Heap) (locs1 : List Loc), mR G o ρ τ H1 → va_S (mA o ρ) H0 H1 locs1 → W p l e R s m args below meth c H1 locs1 cells slots Q (F0 m (pc + 1) ls rest)) : W p l e R s m args below meth c H locs cells slots Q (F0 m pc ls (.int x :: .int i :: .ref (ρ k) :: rest)) := by
  subst hn
  refine W.iast hexec hb (hR.2.1 k hk hm) (hE.2.1 (mlen k) (fun j => .int (mga σ k j))) (fun q => by cases q) (by show ¬ (i < 0 ∨ (arrV _ _ _).slots.size ≤ _); rw [arrV_size]; exact hin) rfl rfl hdg fun H1 e z oq => ?_
  refine kk _ rfl H1 _ ⟨?_, fun j hj hj1 => ?_, fun j hj hj1 => ?_⟩ (hS.put z oq (Or.inr ⟨k, hk, Or.inl hm, rfl⟩))
  · exact (hR.1.kept (oq o (fun h => hap.1 k hk (Or.inl hm) h.symm))).to (fun j _ => mV_arr k _ x j)
  · by_cases hjk : j = k
    · subst hjk
      rw [e, vp_cell_i, vp_cell_i, arrV_store]
      congr 2
      funext q
      by_cases hq : q = i.toNatClampNeg
      · subst hq
        simp [updV, upd, mga, mpa]
      · simp [updV, upd, mga, mpa, hq]
    · rw [oq _ (fun h => hjk (hap.2 j k hj hk (Or.inl hj1) (Or.inl hm) h)), hR.2.1 j hj hj1]
      simp [mga, mpa, hjk]
  · rw [oq _ (fun h => by have := hap.2 j k hj hk (Or.inr hj1) (Or.inl hm) h; subst this; rw [hm] at hj1; cases hj1), hR.2.2 j hj hj1]
    rfl
theorem mm_last (hexec : p.tables.exec = Jvm.exec) (hb : c.code = cc) (hE : mE G s) (hap : mAp o ρ) (hR : mR G o ρ σ H) (hS : va_S (mA o ρ) H0 H locs) (k : Nat) (hk : k < 67) (hm : mkd k = 2) {n : Nat} (hn : mlen k = n) {i : Int32} {x : Int64} (hin : vp_in i n) (hdg : decode cc pc = .ok (.lastore, 1))
    (kk : ∀ (τ : mS), τ = mpl σ k i.toNatClampNeg x → ∀ (H1 : Heap) (locs1 : List Loc), mR G o ρ τ H1 → va_S (mA o ρ) H0 H1 locs1 → W p l e R s m args below meth c H1 locs1 cells slots Q (F0 m (pc + 1) ls rest)) : W p l e R s m args below meth c H locs cells slots Q (F0 m pc ls (.long x :: .int i :: .ref (ρ k) :: rest)) := by
  subst hn
  refine W.last hexec hb (hR.2.2 k hk hm) (hE.2.2 (mlen k) (fun j => .long (mgl σ k j))) (fun q => by cases q) (by show ¬ (i < 0 ∨ (arrV _ _ _).slots.size ≤ _); rw [arrV_size]; exact hin) rfl rfl hdg fun H1 e z oq => ?_
  refine kk _ rfl H1 _ ⟨?_, fun j hj hj1 => ?_, fun j hj hj1 => ?_⟩ (hS.put z oq (Or.inr ⟨k, hk, Or.inr hm, rfl⟩))
  · exact (hR.1.kept (oq o (fun h => hap.1 k hk (Or.inr hm) h.symm))).to (fun j _ => mV_arl k _ x j)
  · rw [oq _ (fun h => by have := hap.2 j k hj hk (Or.inl hj1) (Or.inr hm) h; subst this; rw [hm] at hj1; cases hj1), hR.2.1 j hj hj1]
    rfl
  · by_cases hjk : j = k
    · subst hjk
      rw [e, vp_cell_l, vp_cell_l, arrV_store]
      congr 2
      funext q
      by_cases hq : q = i.toNatClampNeg
      · subst hq
        simp [updV, vp_updL, mgl, mpl]
      · simp [updV, vp_updL, mgl, mpl, hq]
    · rw [oq _ (fun h => hjk (hap.2 j k hj hk (Or.inr hj1) (Or.inr hm) h)), hR.2.2 j hj hj1]
      simp [mgl, mpl, hjk]
/-- a compare of longs and the branch behind it -/
theorem mm_lceq {p1 tgt : Nat} {off : Int} {x y : Int64} (hexec : p.tables.exec = Jvm.exec) (hb : c.code = cc) (hdg : decode cc pc = .ok (.lcmp, 1)) (hp : pc + 1 = p1) (hd2 : decode cc p1 = .ok (.ifCond .eq off, 3)) (ht : (p1 : Int) + off = (tgt : Int)) (kt : x = y → W p l e R s m args below meth c H locs cells slots Q (F0 m tgt ls rest)) (kf : ¬ x = y → W p l e R s m args below meth c H locs cells slots Q (F0 m (p1 + 3) ls rest)) : W p l e R s m args below meth c H locs cells slots Q (F0 m pc ls (.long y :: .long x :: rest)) := by
  subst hp
  exact W.lcmp hexec hb hdg (lv_if_eq hexec hb hd2 ht (fun h => kt ((lg_cmp_eq x y).mp h)) (fun h => kf (fun q => h ((lg_cmp_eq x y).mpr q))))
theorem mm_lcne {p1 tgt : Nat} {off : Int} {x y : Int64} (hexec : p.tables.exec = Jvm.exec) (hb : c.code = cc) (hdg : decode cc pc = .ok (.lcmp, 1)) (hp : pc + 1 = p1) (hd2 : decode cc p1 = .ok (.ifCond .ne off, 3)) (ht : (p1 : Int) + off = (tgt : Int)) (kt : ¬ x = y → W p l e R s m args below meth c H locs cells slots Q (F0 m tgt ls rest)) (kf : x = y → W p l e R s m args below meth c H locs cells slots Q (F0 m (p1 + 3) ls rest)) : W p l e R s m args below meth c H locs cells slots Q (F0 m pc ls (.long y :: .long x :: rest)) := by
  subst hp
  exact W.lcmp hexec hb hdg (lv_if_ne hexec hb hd2 ht (fun h => kt (fun q => h ((lg_cmp_eq x y).mpr q))) (fun h => kf ((lg_cmp_eq x y).mp h)))
theorem mm_lclt {p1 tgt : Nat} {off : Int} {x y : Int64} (hexec : p.tables.exec = Jvm.exec) (hb : c.code = cc) (hdg : decode cc pc = .ok (.lcmp, 1)) (hp : pc + 1 = p1) (hd2 : decode cc p1 = .ok (.ifCond .lt off, 3)) (ht : (p1 : Int) + off = (tgt : Int)) (kt : x < y → W p l e R s m args below meth c H locs cells slots Q (F0 m tgt ls rest)) (kf : ¬ x < y → W p l e R s m args below meth c H locs cells slots Q (F0 m (p1 + 3) ls rest)) : W p l e R s m args below meth c H locs cells slots Q (F0 m pc ls (.long y :: .long x :: rest)) := by
  subst hp
  exact W.lcmp hexec hb hdg (lv_if_lt hexec hb hd2 ht (fun h => kt ((lg_cmp_lt x y).mp h)) (fun h => kf (fun q => h ((lg_cmp_lt x y).mpr q))))
theorem mm_lcge {p1 tgt : Nat} {off : Int} {x y : Int64} (hexec : p.tables.exec = Jvm.exec) (hb : c.code = cc) (hdg : decode cc pc = .ok (.lcmp, 1)) (hp : pc + 1 = p1) (hd2 : decode cc p1 = .ok (.ifCond .ge off, 3)) (ht : (p1 : Int) + off = (tgt : Int)) (kt : y ≤ x → W p l e R s m args below meth c H locs cells slots Q (F0 m tgt ls rest)) (kf : ¬ y ≤ x → W p l e R s m args below meth c H locs cells slots Q (F0 m (p1 + 3) ls rest)) : W p l e R s m args below meth c H locs cells slots Q (F0 m pc ls (.long y :: .long x :: rest)) := by
  subst hp
  exact W.lcmp hexec hb hdg (lv_if_ge hexec hb hd2 ht (fun h => kt ((lg_cmp_ge x y).mp h)) (fun h => kf (fun q => h ((lg_cmp_ge x y).mpr q))))
theorem mm_lcgt {p1 tgt : Nat} {off : Int} {x y : Int64} (hexec : p.tables.exec = Jvm.exec) (hb : c.code = cc) (hdg : decode cc pc = .ok (.lcmp, 1)) (hp : pc + 1 = p1) (hd2 : decode cc p1 = .ok (.ifCond .gt off, 3)) (ht : (p1 : Int) + off = (tgt : Int)) (kt : y < x → W p l e R s m args below meth c H locs cells slots Q (F0 m tgt ls rest)) (kf : ¬ y < x → W p l e R s m args below meth c H locs cells slots Q (F0 m (p1 + 3) ls rest)) : W p l e R s m args below meth c H locs cells slots Q (F0 m pc ls (.long y :: .long x :: rest)) := by
  subst hp
  exact W.lcmp hexec hb hdg (lv_if_gt hexec hb hd2 ht (fun h => kt ((lg_cmp_gt x y).mp h)) (fun h => kf (fun q => h ((lg_cmp_gt x y).mpr q))))
theorem mm_lcle {p1 tgt : Nat} {off : Int} {x y : Int64} (hexec : p.tables.exec = Jvm.exec) (hb : c.code = cc) (hdg : decode cc pc = .ok (.lcmp, 1)) (hp : pc + 1 = p1) (hd2 : decode cc p1 = .ok (.ifCond .le off, 3)) (ht : (p1 : Int) + off = (tgt : Int)) (kt : x ≤ y → W p l e R s m args below meth c H locs cells slots Q (F0 m tgt ls rest)) (kf : ¬ x ≤ y → W p l e R s m args below meth c H locs cells slots Q (F0 m (p1 + 3) ls rest)) : W p l e R s m args below meth c H locs cells slots Q (F0 m pc ls (.long y :: .long x :: rest)) := by
  subst hp
  exact W.lcmp hexec hb hdg (lv_if_le hexec hb hd2 ht (fun h => kt ((lg_cmp_le x y).mp h)) (fun h => kf (fun q => h ((lg_cmp_le x y).mpr q))))
end MROWS
/-! CONTRACTS over the model's state, and the calls between them -/
def mPc (G : mG) (o : Nat) (ρ : Nat → Nat) (av : List Value) (σ : mS) : Array Value → State → Prop := va_Pc av (fun U => mE G U ∧ mR G o ρ σ U.heap)
def mB (G : mG) (o : Nat) (ρ : Nat → Nat) : mS → State → Prop := fun τ t => mR G o ρ τ t.heap
def mMetI (l : Launch) (G : mG) (y : MethodName) (ws : List Cond) (fr lo : Nat) (o : Nat) (ρ : Nat → Nat) (av : List Value) (σ : mS) (Q : Int32 → mS → Prop) : Prop :=
  Met l y ws ({ frames := fr, cells := 0, slots := 0, locals := lo } : Room) (mPc G o ρ av σ) (va_Qi Q (mB G o ρ) (mA o ρ)) 0 0 (mA o ρ)
def mMetL (l : Launch) (G : mG) (y : MethodName) (ws : List Cond) (fr lo : Nat) (o : Nat) (ρ : Nat → Nat) (av : List Value) (σ : mS) (Q : Int64 → mS → Prop) : Prop :=
  Met l y ws ({ frames := fr, cells := 0, slots := 0, locals := lo } : Room) (mPc G o ρ av σ) (va_Ql Q (mB G o ρ) (mA o ρ)) 0 0 (mA o ρ)
def mMetV (l : Launch) (G : mG) (y : MethodName) (ws : List Cond) (fr lo : Nat) (o : Nat) (ρ : Nat → Nat) (av : List Value) (σ : mS) (Q : mS → Prop) : Prop :=
  Met l y ws ({ frames := fr, cells := 0, slots := 0, locals := lo } : Room) (mPc G o ρ av σ) (va_Qv Q (mB G o ρ) (mA o ρ)) 0 0 (mA o ρ)
/-- a static method of numbers alone -/
def mMetS (l : Launch) (y : MethodName) (ws : List Cond) (fr lo : Nat) (av : List Value) (Q : Int32 → Prop) : Prop :=
  Met l y ws ({ frames := fr, cells := 0, slots := 0, locals := lo } : Room) (va_Pc av (fun _ => True)) (va_Qi (S := Unit) (fun r _ => Q r) (fun _ _ => True) (fun _ => False)) 0 0 (fun _ => False)
def mMetSL (l : Launch) (y : MethodName) (ws : List Cond) (fr lo : Nat) (av : List Value) (Q : Int64 → Prop) : Prop :=
  Met l y ws ({ frames := fr, cells := 0, slots := 0, locals := lo } : Room) (va_Pc av (fun _ => True)) (va_Ql (S := Unit) (fun r _ => Q r) (fun _ _ => True) (fun _ => False)) 0 0 (fun _ => False)
theorem mPc_blind {G : mG} {o : Nat} {ρ : Nat → Nat} {av : List Value} {σ : mS} : FrameBlind (mPc G o ρ av σ) := fun a U g mk q => ⟨q.1, mE.moved (u := U) (U := U.calling g mk a) (Vm.Alike.refl U.vm) q.2.1, q.2.2⟩
theorem vp_b01 {r : Int32} (h : r = 0 ∨ r = 1) : narrow .boolean (.int r) = .int r := by
  rcases h with rfl | rfl <;> rfl
section OPEN
variable {l : Launch} {G : mG} {y : MethodName} {bytes : ByteArray} {maxL fr lo o : Nat} {ρ : Nat → Nat} {av : List Value} {σ : mS}
abbrev mCtx (p : Program) (s : State) (m : MethodId) (args : Array Value) (c : Code) (G : mG) (bytes : ByteArray) (maxL : Nat) : Prop :=
  p.tables.exec = Jvm.exec ∧ c.code = bytes ∧ c.maxLocals = maxL ∧ s.vm.findClass RX2 = some m.cls ∧ (∀ w ∈ lw_all, w.before args s = true) ∧ mE G s
theorem mo_I {Q : Int32 → mS → Prop} (hy : plainName y.cls = true) (hyc : y.cls = RX2) (hn : (lg_sl av).length ≤ maxL)
    (body : ∀ (p : Program) (e : Env) (s : State) (R : Room) (m : MethodId) (args : Array Value) (below : List Frame) (meth : Method) (c : Code) (QQ : State → Prop), mCtx p s m args c G bytes maxL → R.frames = fr → R.locals = lo →
      (∀ (pc : Nat) (H : Heap) (locs : List Loc) (ls : Array Slot) (r : Int32) (τ : mS), Q r τ → mR G o ρ τ H → va_S (mA o ρ) s.heap H locs → decode bytes pc = .ok (.ireturn, 1) → W p l e R s m args below meth c H locs 0 0 QQ (F0 m pc ls [.int r])) →
      ∀ (H : Heap) (ls : Array Slot), mR G o ρ σ H → va_S (mA o ρ) s.heap H [] → lv_has ls maxL (lv_args 0 av) → W p l e R s m args below meth c H [] 0 0 QQ (F0 m 0 ls [])) :
    mMetI l G y (ws_ y bytes maxL (some .int)) fr lo o ρ av σ Q := by
  refine Met.ofW (cc := bytes) (maxL := maxL) (ret := some .int) hy rfl ?_
  intro p e s m args below meth c s₁ B hml hv
  obtain ⟨rfl, hE, hR⟩ := hv
  have hts := atoms_spec (ws := ws_ y bytes maxL (some .int)) B.pre
  have hts : ∀ w ∈ lw_all, w.before _ s = true := fun w h => hts w (List.mem_cons_of_mem _ h)
  have hown : s.vm.findClass RX2 = some m.cls := hyc ▸ findClass_of_methodNamed B.named
  have hlocks := B.notSynchronized
  rw [lg_entry_eq]
  exact body p e s _ m _ below meth c _ ⟨B.exec, B.bytes, hml, hown, hts, hE⟩ rfl rfl (fun pc H locs ls r τ hq hR hS hd => W.iret B.exec B.bytes B.returns (fun t ht hW => ⟨⟨r, τ, rfl, hq, by show mR G o ρ τ t.heap; rw [ht]; exact hR⟩, hS.F ht⟩) hS.2.2 hd) s.heap _ hR va_S.rf (lv_entry av hn)
theorem mo_Z {Q : Int32 → mS → Prop} (hy : plainName y.cls = true) (hyc : y.cls = RX2) (hn : (lg_sl av).length ≤ maxL)
    (body : ∀ (p : Program) (e : Env) (s : State) (R : Room) (m : MethodId) (args : Array Value) (below : List Frame) (meth : Method) (c : Code) (QQ : State → Prop), mCtx p s m args c G bytes maxL → R.frames = fr → R.locals = lo →
      (∀ (pc : Nat) (H : Heap) (locs : List Loc) (ls : Array Slot) (r : Int32) (τ : mS), Q r τ → r = 0 ∨ r = 1 → mR G o ρ τ H → va_S (mA o ρ) s.heap H locs → decode bytes pc = .ok (.ireturn, 1) → W p l e R s m args below meth c H locs 0 0 QQ (F0 m pc ls [.int r])) →
      ∀ (H : Heap) (ls : Array Slot), mR G o ρ σ H → va_S (mA o ρ) s.heap H [] → lv_has ls maxL (lv_args 0 av) → W p l e R s m args below meth c H [] 0 0 QQ (F0 m 0 ls [])) :
    mMetI l G y (ws_ y bytes maxL (some .boolean)) fr lo o ρ av σ Q := by
  refine Met.ofW (cc := bytes) (maxL := maxL) (ret := some .boolean) hy rfl ?_
  intro p e s m args below meth c s₁ B hml hv
  obtain ⟨rfl, hE, hR⟩ := hv
  have hts := atoms_spec (ws := ws_ y bytes maxL (some .boolean)) B.pre
  have hts : ∀ w ∈ lw_all, w.before _ s = true := fun w h => hts w (List.mem_cons_of_mem _ h)
  have hown : s.vm.findClass RX2 = some m.cls := hyc ▸ findClass_of_methodNamed B.named
  have hlocks := B.notSynchronized
  rw [lg_entry_eq]
  exact body p e s _ m _ below meth c _ ⟨B.exec, B.bytes, hml, hown, hts, hE⟩ rfl rfl (fun pc H locs ls r τ hq hz hR hS hd => W.zret B.exec B.bytes B.returns (vp_b01 hz) (fun t ht hW => ⟨⟨r, τ, rfl, hq, by show mR G o ρ τ t.heap; rw [ht]; exact hR⟩, hS.F ht⟩) hS.2.2 hd) s.heap _ hR va_S.rf (lv_entry av hn)
theorem mo_L {Q : Int64 → mS → Prop} (hy : plainName y.cls = true) (hyc : y.cls = RX2) (hn : (lg_sl av).length ≤ maxL)
    (body : ∀ (p : Program) (e : Env) (s : State) (R : Room) (m : MethodId) (args : Array Value) (below : List Frame) (meth : Method) (c : Code) (QQ : State → Prop), mCtx p s m args c G bytes maxL → R.frames = fr → R.locals = lo →
      (∀ (pc : Nat) (H : Heap) (locs : List Loc) (ls : Array Slot) (r : Int64) (τ : mS), Q r τ → mR G o ρ τ H → va_S (mA o ρ) s.heap H locs → decode bytes pc = .ok (.lreturn, 1) → W p l e R s m args below meth c H locs 0 0 QQ (F0 m pc ls [.long r])) →
      ∀ (H : Heap) (ls : Array Slot), mR G o ρ σ H → va_S (mA o ρ) s.heap H [] → lv_has ls maxL (lv_args 0 av) → W p l e R s m args below meth c H [] 0 0 QQ (F0 m 0 ls [])) :
    mMetL l G y (ws_ y bytes maxL (some .long)) fr lo o ρ av σ Q := by
  refine Met.ofW (cc := bytes) (maxL := maxL) (ret := some .long) hy rfl ?_
  intro p e s m args below meth c s₁ B hml hv
  obtain ⟨rfl, hE, hR⟩ := hv
  have hts := atoms_spec (ws := ws_ y bytes maxL (some .long)) B.pre
  have hts : ∀ w ∈ lw_all, w.before _ s = true := fun w h => hts w (List.mem_cons_of_mem _ h)
  have hown : s.vm.findClass RX2 = some m.cls := hyc ▸ findClass_of_methodNamed B.named
  have hlocks := B.notSynchronized
  rw [lg_entry_eq]
  exact body p e s _ m _ below meth c _ ⟨B.exec, B.bytes, hml, hown, hts, hE⟩ rfl rfl (fun pc H locs ls r τ hq hR hS hd => W.lret B.exec B.bytes B.returns (fun t ht hW => ⟨⟨r, τ, rfl, hq, by show mR G o ρ τ t.heap; rw [ht]; exact hR⟩, hS.F ht⟩) hS.2.2 hd) s.heap _ hR va_S.rf (lv_entry av hn)
theorem mo_V {Q : mS → Prop} (hy : plainName y.cls = true) (hyc : y.cls = RX2) (hn : (lg_sl av).length ≤ maxL)
    (body : ∀ (p : Program) (e : Env) (s : State) (R : Room) (m : MethodId) (args : Array Value) (below : List Frame) (meth : Method) (c : Code) (QQ : State → Prop), mCtx p s m args c G bytes maxL → R.frames = fr → R.locals = lo →
      (∀ (pc : Nat) (H : Heap) (locs : List Loc) (ls : Array Slot) (τ : mS), Q τ → mR G o ρ τ H → va_S (mA o ρ) s.heap H locs → decode bytes pc = .ok (.return_, 1) → W p l e R s m args below meth c H locs 0 0 QQ (F0 m pc ls [])) →
      ∀ (H : Heap) (ls : Array Slot), mR G o ρ σ H → va_S (mA o ρ) s.heap H [] → lv_has ls maxL (lv_args 0 av) → W p l e R s m args below meth c H [] 0 0 QQ (F0 m 0 ls [])) :
    mMetV l G y (ws_ y bytes maxL none) fr lo o ρ av σ Q := by
  refine Met.ofW (cc := bytes) (maxL := maxL) (ret := none) hy rfl ?_
  intro p e s m args below meth c s₁ B hml hv
  obtain ⟨rfl, hE, hR⟩ := hv
  have hts := atoms_spec (ws := ws_ y bytes maxL none) B.pre
  have hts : ∀ w ∈ lw_all, w.before _ s = true := fun w h => hts w (List.mem_cons_of_mem _ h)
  have hown : s.vm.findClass RX2 = some m.cls := hyc ▸ findClass_of_methodNamed B.named
  have hlocks := B.notSynchronized
  rw [lg_entry_eq]
  exact body p e s _ m _ below meth c _ ⟨B.exec, B.bytes, hml, hown, hts, hE⟩ rfl rfl (fun pc H locs ls τ hq hR hS hd => W.vret B.exec B.bytes B.returns (fun t ht hW => ⟨⟨τ, rfl, hq, by show mR G o ρ τ t.heap; rw [ht]; exact hR⟩, hS.F ht⟩) hS.2.2 hd) s.heap _ hR va_S.rf (lv_entry av hn)
abbrev sCtx (p : Program) (s : State) (m : MethodId) (args : Array Value) (c : Code) (own : String) (bytes : ByteArray) (maxL : Nat) : Prop :=
  p.tables.exec = Jvm.exec ∧ c.code = bytes ∧ c.maxLocals = maxL ∧ s.vm.findClass own = some m.cls ∧ (∀ w ∈ lw_all, w.before args s = true)
/-- a static method of numbers: boolean (its answer 0 or 1), int, long -/
theorem mo_SZ {Q : Int32 → Prop} (hy : plainName y.cls = true) (hn : (lg_sl av).length ≤ maxL)
    (body : ∀ (p : Program) (e : Env) (s : State) (R : Room) (m : MethodId) (args : Array Value) (below : List Frame) (meth : Method) (c : Code) (QQ : State → Prop), sCtx p s m args c y.cls bytes maxL → R.frames = fr → R.locals = lo →
      (∀ (pc : Nat) (H : Heap) (locs : List Loc) (ls : Array Slot) (r : Int32), Q r → r = 0 ∨ r = 1 → va_S (fun _ => False) s.heap H locs → decode bytes pc = .ok (.ireturn, 1) → W p l e R s m args below meth c H locs 0 0 QQ (F0 m pc ls [.int r])) →
      ∀ (H : Heap) (ls : Array Slot), va_S (fun _ => False) s.heap H [] → lv_has ls maxL (lv_args 0 av) → W p l e R s m args below meth c H [] 0 0 QQ (F0 m 0 ls [])) :
    mMetS l y (ws_ y bytes maxL (some .boolean)) fr lo av Q := by
  refine Met.ofW (cc := bytes) (maxL := maxL) (ret := some .boolean) hy rfl ?_
  intro p e s m args below meth c s₁ B hml hv
  obtain ⟨rfl, -⟩ := hv
  have hts := atoms_spec (ws := ws_ y bytes maxL (some .boolean)) B.pre
  have hts : ∀ w ∈ lw_all, w.before _ s = true := fun w h => hts w (List.mem_cons_of_mem _ h)
  have hown : s.vm.findClass y.cls = some m.cls := findClass_of_methodNamed B.named
  have hlocks := B.notSynchronized
  rw [lg_entry_eq]
  exact body p e s _ m _ below meth c _ ⟨B.exec, B.bytes, hml, hown, hts⟩ rfl rfl (fun pc H locs ls r hq hz hS hd => W.zret B.exec B.bytes B.returns (vp_b01 hz) (fun t ht hW => ⟨⟨r, (), rfl, hq, trivial⟩, hS.F ht⟩) hS.2.2 hd) s.heap _ va_S.rf (lv_entry av hn)
theorem mo_SI {Q : Int32 → Prop} (hy : plainName y.cls = true) (hn : (lg_sl av).length ≤ maxL)
    (body : ∀ (p : Program) (e : Env) (s : State) (R : Room) (m : MethodId) (args : Array Value) (below : List Frame) (meth : Method) (c : Code) (QQ : State → Prop), sCtx p s m args c y.cls bytes maxL → R.frames = fr → R.locals = lo →
      (∀ (pc : Nat) (H : Heap) (locs : List Loc) (ls : Array Slot) (r : Int32), Q r → va_S (fun _ => False) s.heap H locs → decode bytes pc = .ok (.ireturn, 1) → W p l e R s m args below meth c H locs 0 0 QQ (F0 m pc ls [.int r])) →
      ∀ (H : Heap) (ls : Array Slot), va_S (fun _ => False) s.heap H [] → lv_has ls maxL (lv_args 0 av) → W p l e R s m args below meth c H [] 0 0 QQ (F0 m 0 ls [])) :
    mMetS l y (ws_ y bytes maxL (some .int)) fr lo av Q := by
  refine Met.ofW (cc := bytes) (maxL := maxL) (ret := some .int) hy rfl ?_
  intro p e s m args below meth c s₁ B hml hv
  obtain ⟨rfl, -⟩ := hv
  have hts := atoms_spec (ws := ws_ y bytes maxL (some .int)) B.pre
  have hts : ∀ w ∈ lw_all, w.before _ s = true := fun w h => hts w (List.mem_cons_of_mem _ h)
  have hown : s.vm.findClass y.cls = some m.cls := findClass_of_methodNamed B.named
  have hlocks := B.notSynchronized
  rw [lg_entry_eq]
  exact body p e s _ m _ below meth c _ ⟨B.exec, B.bytes, hml, hown, hts⟩ rfl rfl (fun pc H locs ls r hq hS hd => W.iret B.exec B.bytes B.returns (fun t ht hW => ⟨⟨r, (), rfl, hq, trivial⟩, hS.F ht⟩) hS.2.2 hd) s.heap _ va_S.rf (lv_entry av hn)
theorem mo_SL {Q : Int64 → Prop} (hy : plainName y.cls = true) (hn : (lg_sl av).length ≤ maxL)
    (body : ∀ (p : Program) (e : Env) (s : State) (R : Room) (m : MethodId) (args : Array Value) (below : List Frame) (meth : Method) (c : Code) (QQ : State → Prop), sCtx p s m args c y.cls bytes maxL → R.frames = fr → R.locals = lo →
      (∀ (pc : Nat) (H : Heap) (locs : List Loc) (ls : Array Slot) (r : Int64), Q r → va_S (fun _ => False) s.heap H locs → decode bytes pc = .ok (.lreturn, 1) → W p l e R s m args below meth c H locs 0 0 QQ (F0 m pc ls [.long r])) →
      ∀ (H : Heap) (ls : Array Slot), va_S (fun _ => False) s.heap H [] → lv_has ls maxL (lv_args 0 av) → W p l e R s m args below meth c H [] 0 0 QQ (F0 m 0 ls [])) :
    mMetSL l y (ws_ y bytes maxL (some .long)) fr lo av Q := by
  refine Met.ofW (cc := bytes) (maxL := maxL) (ret := some .long) hy rfl ?_
  intro p e s m args below meth c s₁ B hml hv
  obtain ⟨rfl, -⟩ := hv
  have hts := atoms_spec (ws := ws_ y bytes maxL (some .long)) B.pre
  have hts : ∀ w ∈ lw_all, w.before _ s = true := fun w h => hts w (List.mem_cons_of_mem _ h)
  have hown : s.vm.findClass y.cls = some m.cls := findClass_of_methodNamed B.named
  have hlocks := B.notSynchronized
  rw [lg_entry_eq]
  exact body p e s _ m _ below meth c _ ⟨B.exec, B.bytes, hml, hown, hts⟩ rfl rfl (fun pc H locs ls r hq hS hd => W.lret B.exec B.bytes B.returns (fun t ht hW => ⟨⟨r, (), rfl, hq, trivial⟩, hS.F ht⟩) hS.2.2 hd) s.heap _ va_S.rf (lv_entry av hn)
end OPEN
section CALLS
variable {p : Program} {l : Launch} {e : Env} {R : Room} {s : State} {m : MethodId} {args : Array Value} {below : List Frame} {meth : Method} {c : Code} {H : Heap} {locs : List Loc} {QQ : State → Prop}
variable {cc bytes : ByteArray} {pc nL maxL fr lo n index : Nat} {ls : Array Slot} {st rest As : List Value} {G : mG} {o : Nat} {ρ : Nat → Nat} {σ : mS} {H0 : Heap} {y : MethodName} {ret : Option FieldType}
theorem mm_recv (hE : mE G s) (hR : mR G o ρ σ H) : ∃ cell : Cell, H[o]? = some cell ∧ cell.vm.isStatics = false ∧ s.vm.findClass RX2 = some cell.cls := by
  obtain ⟨cell, q1, q2, q3, -⟩ := hR.1
  exact ⟨cell, q1, by rw [q3]; rfl, by rw [q2]; exact hE.1.2.1⟩
theorem mc_vi {Q : Int32 → mS → Prop} (X : mCtx p s m args c G cc nL) (hM : mMetI l G y (ws_ y bytes maxL ret) fr lo o ρ (.ref o :: As) σ Q) (hg : GoodIn lw_all (wsV RX2 index RX2 y (ws_ y bytes maxL ret)))
    (hd : y.cls = RX2 ∧ y.cls ≠ "java/lang/invoke/MethodHandle" ∧ y.cls ≠ "java/lang/invoke/VarHandle" ∧ (parseMethodDescriptor y.desc).map (fun d => d.parameters.length) = some n) (hfr : fr + 1 ≤ R.frames) (hlo : 8 + (maxL + 11) + lo ≤ R.locals) (hn : As.length = n) (hst : st = As.reverse ++ .ref o :: rest) (hW : (rest.map fun v => v.category).sum ≤ 8)
    (hdg : decode cc pc = .ok (.invokevirtual index, 3)) (hR : mR G o ρ σ H) (hS : va_S (mA o ρ) H0 H locs) (hsz : ls.size = nL)
    (kk : ∀ (r : Int32) (τ : mS) (H1 : Heap) (locs1 : List Loc), Q r τ → mR G o ρ τ H1 → va_S (mA o ρ) H0 H1 locs1 → W p l e R s m args below meth c H1 locs1 0 0 QQ (F0 m (pc + 3) ls (.int r :: rest))) : W p l e R s m args below meth c H locs 0 0 QQ (F0 m pc ls st) := by
  obtain ⟨hx, hb, hml, hown, hts, hE⟩ := X
  exact va_calli (va_runV (As := As) (rest := rest) ⟨hx, hb, hml, hown, hts⟩ hM (cwV n hts hg rfl rfl rfl hd ⟨hfr, hlo⟩) ⟨mPc_blind, mm_recv hE hR, fun U hU hW => ⟨rfl, hE.moved hW.alike, by rw [hU]; exact hR⟩⟩ rfl hn hsz hst (lv_room hW) hdg ⟨Nat.zero_le _, Nat.zero_le _⟩) hS (fun q _ h => h) (fun q h => h) (fun r u t H1 locs1 ht _ hp hB _ _ hS1 => kk r u H1 locs1 hp (ht ▸ hB) hS1)
theorem mc_vl {Q : Int64 → mS → Prop} (X : mCtx p s m args c G cc nL) (hM : mMetL l G y (ws_ y bytes maxL ret) fr lo o ρ (.ref o :: As) σ Q) (hg : GoodIn lw_all (wsV RX2 index RX2 y (ws_ y bytes maxL ret)))
    (hd : y.cls = RX2 ∧ y.cls ≠ "java/lang/invoke/MethodHandle" ∧ y.cls ≠ "java/lang/invoke/VarHandle" ∧ (parseMethodDescriptor y.desc).map (fun d => d.parameters.length) = some n) (hfr : fr + 1 ≤ R.frames) (hlo : 8 + (maxL + 11) + lo ≤ R.locals) (hn : As.length = n) (hst : st = As.reverse ++ .ref o :: rest) (hW : (rest.map fun v => v.category).sum ≤ 8)
    (hdg : decode cc pc = .ok (.invokevirtual index, 3)) (hR : mR G o ρ σ H) (hS : va_S (mA o ρ) H0 H locs) (hsz : ls.size = nL)
    (kk : ∀ (r : Int64) (τ : mS) (H1 : Heap) (locs1 : List Loc), Q r τ → mR G o ρ τ H1 → va_S (mA o ρ) H0 H1 locs1 → W p l e R s m args below meth c H1 locs1 0 0 QQ (F0 m (pc + 3) ls (.long r :: rest))) : W p l e R s m args below meth c H locs 0 0 QQ (F0 m pc ls st) := by
  obtain ⟨hx, hb, hml, hown, hts, hE⟩ := X
  exact va_calll (va_runV (As := As) (rest := rest) ⟨hx, hb, hml, hown, hts⟩ hM (cwV n hts hg rfl rfl rfl hd ⟨hfr, hlo⟩) ⟨mPc_blind, mm_recv hE hR, fun U hU hW => ⟨rfl, hE.moved hW.alike, by rw [hU]; exact hR⟩⟩ rfl hn hsz hst (lv_room hW) hdg ⟨Nat.zero_le _, Nat.zero_le _⟩) hS (fun q _ h => h) (fun q h => h) (fun r u t H1 locs1 ht _ hp hB _ _ hS1 => kk r u H1 locs1 hp (ht ▸ hB) hS1)
theorem mc_vv {Q : mS → Prop} (X : mCtx p s m args c G cc nL) (hM : mMetV l G y (ws_ y bytes maxL ret) fr lo o ρ (.ref o :: As) σ Q) (hg : GoodIn lw_all (wsV RX2 index RX2 y (ws_ y bytes maxL ret)))
    (hd : y.cls = RX2 ∧ y.cls ≠ "java/lang/invoke/MethodHandle" ∧ y.cls ≠ "java/lang/invoke/VarHandle" ∧ (parseMethodDescriptor y.desc).map (fun d => d.parameters.length) = some n) (hfr : fr + 1 ≤ R.frames) (hlo : 8 + (maxL + 11) + lo ≤ R.locals) (hn : As.length = n) (hst : st = As.reverse ++ .ref o :: rest) (hW : (rest.map fun v => v.category).sum ≤ 8)
    (hdg : decode cc pc = .ok (.invokevirtual index, 3)) (hR : mR G o ρ σ H) (hS : va_S (mA o ρ) H0 H locs) (hsz : ls.size = nL)
    (kk : ∀ (τ : mS) (H1 : Heap) (locs1 : List Loc), Q τ → mR G o ρ τ H1 → va_S (mA o ρ) H0 H1 locs1 → W p l e R s m args below meth c H1 locs1 0 0 QQ (F0 m (pc + 3) ls rest)) : W p l e R s m args below meth c H locs 0 0 QQ (F0 m pc ls st) := by
  obtain ⟨hx, hb, hml, hown, hts, hE⟩ := X
  exact va_callv (va_runV (As := As) (rest := rest) ⟨hx, hb, hml, hown, hts⟩ hM (cwV n hts hg rfl rfl rfl hd ⟨hfr, hlo⟩) ⟨mPc_blind, mm_recv hE hR, fun U hU hW => ⟨rfl, hE.moved hW.alike, by rw [hU]; exact hR⟩⟩ rfl hn hsz hst (lv_room hW) hdg ⟨Nat.zero_le _, Nat.zero_le _⟩) hS (fun q _ h => h) (fun q h => h) (fun u t H1 locs1 ht _ hp hB _ _ hS1 => kk u H1 locs1 hp (ht ▸ hB) hS1)
theorem mc_si {Q : Int32 → Prop} (X : mCtx p s m args c G cc nL) (hM : mMetS l y (ws_ y bytes maxL ret) fr lo As Q) (hg : GoodIn lw_all (va_wsS RX2 index y (ws_ y bytes maxL ret)))
    (hd : y.cls ≠ "java/lang/invoke/MethodHandle" ∧ y.cls ≠ "java/lang/invoke/VarHandle" ∧ (parseMethodDescriptor y.desc).map (fun d => d.parameters.length) = some n) (hfr : fr + 1 ≤ R.frames) (hlo : 8 + (maxL + 11) + lo ≤ R.locals) (hn : As.length = n) (hst : st = As.reverse ++ rest) (hW : (rest.map fun v => v.category).sum ≤ 8)
    (hdg : decode cc pc = .ok (.invokestatic index, 3)) (hR : mR G o ρ σ H) (hS : va_S (mA o ρ) H0 H locs) (hsz : ls.size = nL)
    (kk : ∀ (r : Int32) (H1 : Heap) (locs1 : List Loc), Q r → mR G o ρ σ H1 → va_S (mA o ρ) H0 H1 locs1 → W p l e R s m args below meth c H1 locs1 0 0 QQ (F0 m (pc + 3) ls (.int r :: rest))) : W p l e R s m args below meth c H locs 0 0 QQ (F0 m pc ls st) := by
  obtain ⟨hx, hb, hml, hown, hts, hE⟩ := X
  exact va_calli (va_runS (As := As) (rest := rest) ⟨hx, hb, hml, hown, hts⟩ hM (va_cwS n hts hg rfl rfl rfl hd ⟨hfr, hlo⟩) ⟨fun a U g mk q => q, fun U hU hW => ⟨rfl, trivial⟩⟩ rfl hn hsz hst (lv_room hW) hdg ⟨Nat.zero_le _, Nat.zero_le _⟩) hS (fun q _ h => h.elim) (fun q h => h.elim) (fun r u t H1 locs1 ht _ hp hB _ hk hS1 => kk r H1 locs1 hp (hR.kept (fun q hq => hk q (hR.lt q hq) (fun h => h))) hS1)
/-- a static method called by a static one -/
theorem sc_si {own : String} {Q : Int32 → Prop} (X : sCtx p s m args c own cc nL) (hM : mMetS l y (ws_ y bytes maxL ret) fr lo As Q) (hg : GoodIn lw_all (va_wsS own index y (ws_ y bytes maxL ret)))
    (hd : y.cls ≠ "java/lang/invoke/MethodHandle" ∧ y.cls ≠ "java/lang/invoke/VarHandle" ∧ (parseMethodDescriptor y.desc).map (fun d => d.parameters.length) = some n) (hfr : fr + 1 ≤ R.frames) (hlo : 8 + (maxL + 11) + lo ≤ R.locals) (hn : As.length = n) (hst : st = As.reverse ++ rest) (hW : (rest.map fun v => v.category).sum ≤ 8)
    (hdg : decode cc pc = .ok (.invokestatic index, 3)) {A : Nat → Prop} (hS : va_S A H0 H locs) (hsz : ls.size = nL)
    (kk : ∀ (r : Int32) (H1 : Heap) (locs1 : List Loc), Q r → (∀ q : Nat, q < H.size → H1[q]? = H[q]?) → va_S A H0 H1 locs1 → W p l e R s m args below meth c H1 locs1 0 0 QQ (F0 m (pc + 3) ls (.int r :: rest))) : W p l e R s m args below meth c H locs 0 0 QQ (F0 m pc ls st) := by
  obtain ⟨hx, hb, hml, hown, hts⟩ := X
  exact va_calli (va_runS (As := As) (rest := rest) ⟨hx, hb, hml, hown, hts⟩ hM (va_cwS n hts hg rfl rfl rfl hd ⟨hfr, hlo⟩) ⟨fun a U g mk q => q, fun U hU hW => ⟨rfl, trivial⟩⟩ rfl hn hsz hst (lv_room hW) hdg ⟨Nat.zero_le _, Nat.zero_le _⟩) hS (fun q _ h => h.elim) (fun q h => h.elim) (fun r u t H1 locs1 ht _ hp hB _ hk hS1 => kk r H1 locs1 hp (fun q hq => hk q hq (fun h => h)) hS1)
theorem mc_vir {Q : Int32 → Prop} (X : mCtx p s m args c G cc nL) (hM : mMetI l G y (ws_ y bytes maxL ret) fr lo o ρ (.ref o :: As) σ (fun r τ => σ = τ ∧ Q r)) (hg : GoodIn lw_all (wsV RX2 index RX2 y (ws_ y bytes maxL ret)))
    (hd : y.cls = RX2 ∧ y.cls ≠ "java/lang/invoke/MethodHandle" ∧ y.cls ≠ "java/lang/invoke/VarHandle" ∧ (parseMethodDescriptor y.desc).map (fun d => d.parameters.length) = some n) (hfr : fr + 1 ≤ R.frames) (hlo : 8 + (maxL + 11) + lo ≤ R.locals) (hn : As.length = n) (hst : st = As.reverse ++ .ref o :: rest) (hW : (rest.map fun v => v.category).sum ≤ 8)
    (hdg : decode cc pc = .ok (.invokevirtual index, 3)) (hR : mR G o ρ σ H) (hS : va_S (mA o ρ) H0 H locs) (hsz : ls.size = nL)
    (kk : ∀ (r : Int32) (H1 : Heap) (locs1 : List Loc), Q r → mR G o ρ σ H1 → va_S (mA o ρ) H0 H1 locs1 → W p l e R s m args below meth c H1 locs1 0 0 QQ (F0 m (pc + 3) ls (.int r :: rest))) : W p l e R s m args below meth c H locs 0 0 QQ (F0 m pc ls st) :=
  mc_vi X hM hg hd hfr hlo hn hst hW hdg hR hS hsz (fun r τ H1 locs1 hq h1 h2 => by obtain ⟨rfl, hq⟩ := hq; exact kk r H1 locs1 hq h1 h2)
theorem mc_vlr {Q : Int64 → Prop} (X : mCtx p s m args c G cc nL) (hM : mMetL l G y (ws_ y bytes maxL ret) fr lo o ρ (.ref o :: As) σ (fun r τ => σ = τ ∧ Q r)) (hg : GoodIn lw_all (wsV RX2 index RX2 y (ws_ y bytes maxL ret)))
    (hd : y.cls = RX2 ∧ y.cls ≠ "java/lang/invoke/MethodHandle" ∧ y.cls ≠ "java/lang/invoke/VarHandle" ∧ (parseMethodDescriptor y.desc).map (fun d => d.parameters.length) = some n) (hfr : fr + 1 ≤ R.frames) (hlo : 8 + (maxL + 11) + lo ≤ R.locals) (hn : As.length = n) (hst : st = As.reverse ++ .ref o :: rest) (hW : (rest.map fun v => v.category).sum ≤ 8)
    (hdg : decode cc pc = .ok (.invokevirtual index, 3)) (hR : mR G o ρ σ H) (hS : va_S (mA o ρ) H0 H locs) (hsz : ls.size = nL)
    (kk : ∀ (r : Int64) (H1 : Heap) (locs1 : List Loc), Q r → mR G o ρ σ H1 → va_S (mA o ρ) H0 H1 locs1 → W p l e R s m args below meth c H1 locs1 0 0 QQ (F0 m (pc + 3) ls (.long r :: rest))) : W p l e R s m args below meth c H locs 0 0 QQ (F0 m pc ls st) :=
  mc_vl X hM hg hd hfr hlo hn hst hW hdg hR hS hsz (fun r τ H1 locs1 hq h1 h2 => by obtain ⟨rfl, hq⟩ := hq; exact kk r H1 locs1 hq h1 h2)
end CALLS
