/-! CLASS 29: leaves are made and taken -/
set_option maxRecDepth 100000
theorem kC_ini7 {S : hH} {q c : Nat} {fs : List Value} (oq : S q = some (kO c fs)) (hc : c ∈ [8, 11, 12, 13, 14]) (hl : 0 < fs.length) (mk : Option Nat) (Q : hH → Prop) (hq : Q (hup S q (kO c (fs.set 0 (va_rf mk))))) : wX7_init S q mk Q := by
  unfold wX7_init
  refine ⟨⟨c, hc, fs, oq, hl⟩, ?_⟩
  intro S6 h6
  rw [h6, kO_pF oq]
  exact hq
theorem kC_ini8 {S : hH} {q c : Nat} (oq : S q = some (kO c [.null, .int (i32 0), .int (i32 0)])) (hc : c = 8 ∨ c = 14) (mk : Option Nat) (x y : Int32) (Q : hH → Prop) (hq : Q (hup S q (kO c [va_rf mk, .int x, .int y]))) : wX8_init S q mk x y Q := by
  have h1 : c ∈ [8, 11, 12, 13, 14] := by rcases hc with rfl | rfl <;> decide
  have h2 : c ∈ [8, 14] := by rcases hc with rfl | rfl <;> decide
  unfold wX8_init
  refine kC_ini7 oq h1 (Nat.succ_pos _) mk _ ?_
  refine ⟨⟨c, h2, _, hup_at _ _ _, by show 1 < 3; omega⟩, ?_⟩
  intro S7 h7
  rw [kuO_pF] at h7
  subst h7
  refine ⟨⟨c, h2, _, hup_at _ _ _, by show 2 < 3; omega⟩, ?_⟩
  intro S12 h12
  rw [kuO_pF] at h12
  subst h12
  exact hq
theorem kC_ini11 {S : hH} {q c : Nat} (oq : S q = some (kO c [.null, .int (i32 0)])) (hc : c = 11 ∨ c = 12 ∨ c = 13) (mk : Option Nat) (x : Int32) (Q : hH → Prop) (hq : Q (hup S q (kO c [va_rf mk, .int x]))) : wX11_init S q mk x Q := by
  have h1 : c ∈ [8, 11, 12, 13, 14] := by rcases hc with rfl | rfl | rfl <;> decide
  have h2 : c ∈ [11, 12, 13] := by rcases hc with rfl | rfl | rfl <;> decide
  unfold wX11_init
  refine kC_ini7 oq h1 (Nat.succ_pos _) mk _ ?_
  refine ⟨⟨c, h2, _, hup_at _ _ _, by show 1 < 2; omega⟩, ?_⟩
  intro S7 h7
  rw [kuO_pF] at h7
  subst h7
  exact hq
theorem kC_ini12 {S : hH} {q c : Nat} (oq : S q = some (kO c [.null, .int (i32 0)])) (hc : c = 11 ∨ c = 12 ∨ c = 13) (mk : Option Nat) (x : Int32) (Q : hH → Prop) (hq : Q (hup S q (kO c [va_rf mk, .int x]))) : wX12_init S q mk x Q := by
  unfold wX12_init
  exact kC_ini11 oq hc mk x _ hq
theorem kC_ini13 {S : hH} {q c : Nat} (oq : S q = some (kO c [.null, .int (i32 0)])) (hc : c = 11 ∨ c = 12 ∨ c = 13) (mk : Option Nat) (x : Int32) (Q : hH → Prop) (hq : Q (hup S q (kO c [va_rf mk, .int x]))) : wX13_init S q mk x Q := by
  unfold wX13_init
  exact kC_ini12 oq hc mk x _ hq
theorem kC_ini14 {S : hH} {q : Nat} (oq : S q = some (kO 14 [.null, .int (i32 0), .int (i32 0)])) (mk : Option Nat) (x : Int32) (Q : hH → Prop) (hq : Q (hup S q (kO 14 [va_rf mk, .int x, .int (i32 1)]))) : wX14_init S q mk x Q := by
  unfold wX14_init
  try simp only [zl32, zl64, i32_add, i32_sub, i32_mul, i32_neg, i64_add, i64_sub, i64_mul, i64_neg, cv_gi, cv_gw, cv_ga, cv_gl, cv_pi, cv_pw, cv_pa, cv_pl, zf_S, zf_i, zf_l, mz1, mz2, mz3, mz4]
  exact kC_ini8 oq (Or.inr rfl) mk x (i32 1) _ hq
theorem kMu.new {Kc A h : Nat → Nat} {p M : Int} {tr : Option Nat} {dg : Int} {f : Nat → Int} {E1 E2 : Nat} {S : hH} {kn lf : Nat → Nat} {Tt : zT} (ht : kTg Kc A h p M tr dg f E1 E2 S kn lf Tt) {q : Nat} (hq : S q = none) : ¬ kMu Kc A h E1 E2 q := by
  have hs := ht.1.2.1
  obtain ⟨hd, hv, oT⟩ := ht.2.1
  obtain ⟨c1, ⟨⟨v1, L1⟩, ⟨fe1, q1, _⟩, _⟩, _⟩ := ht.2.2.2.2.1
  obtain ⟨c2, ⟨⟨v2, L2⟩, ⟨fe2, q2, _⟩, _⟩, _⟩ := ht.2.2.2.2.2.1
  rintro (⟨k, k1, k2, e⟩ | e | e | e | e | ⟨_, e | e⟩)
  · obtain ⟨y, hy⟩ := hs.ex k k1 k2
    rw [e, hy] at hq; cases hq
  · rw [e, oT] at hq; cases hq
  · rw [e, L1] at hq; cases hq
  · rw [e, L2] at hq; cases hq
  · rw [e, ht.2.2.1] at hq; cases hq
  · rw [e, q1] at hq; cases hq
  · rw [e, q2] at hq; cases hq
theorem kC_leafAdd {Kc A h : Nat → Nat} {p M : Int} {tr : Option Nat} {dg : Int} {f : Nat → Int} {E1 E2 : Nat} {S : hH} {kn lf : Nat → Nat} {Tt : zT} (hh : kHs A h) (hA0 : ∀ k, k < 90 → Kc 0 ≠ A k) (hA : ∀ k, 1 ≤ k → k < 77 → A 0 ≠ A k) (ht : kTg Kc A h p M tr dg f E1 E2 S kn lf Tt) {q : Nat} (hq : S q = none) {l : zL} (hl : l.2.2.2.2 < Tt.1.length) (hn : Tt.2.length < 9) (mc ms : Nat) (hmc : 1 ≤ mc) (hms : 30 ≤ ms) (R : hH → Prop)
    (hR : ∀ S1 E', kTg Kc A h p M tr dg f E1 E' S1 kn (kap Tt.2.length q lf) (Tt.1, Tt.2 ++ [l]) → kG (kMu Kc A h E1 E2) (kMu Kc A h E1 E') S S1 → R S1) : wJ20_add Kc mc ms (hup S q (kLc kn l)) (h 2) q (fun _ S1 => R S1) := by
  have hF : kF kN S (hup S q (kLc kn l)) := kF.new hq
  have ht1 := ht.ext hh hA0 hA hF
  have hnew := kMu.new ht hq
  obtain ⟨c2, a2, b2⟩ := ht1.2.2.2.2.2.1
  obtain ⟨c, fs, ec, hc⟩ := kLc_cl kn l
  have hcl : kCl c := by
    rcases hc with rfl | rfl | rfl | rfl | rfl
    · exact kCl_8
    · exact kCl_14
    · exact kCl_11
    · exact kCl_12
    · exact kCl_13
  have hx : (hup S q (kLc kn l)) q = some (kO c fs) := by rw [hup_at, ec]
  refine kC_add a2 ht1.1.2.2 hx hcl (Or.inl (by omega)) (by omega) mc ms hmc (by omega) _ (fun S1 E' c' hL1 hcc hE hfr => ?_)
  have hres := ht1.leaf hh hA0 (q := q) (l := l) ⟨hup_at _ _ _, hnew⟩ hl hL1 (by omega) hE hfr
  refine hR S1 E' hres.1 (kG.trans (hF.G (fun q h => h.elim)) hres.2)
