/-! CLASS 32: knots' records; what growing brings -/
set_option maxRecDepth 100000
def kSr (m : Nat → Prop) (S : hH) (M p : Int) (f : Nat → Int) (pa : zP) (mf : Nat) (g : Nat → Nat) (xs : List (Nat × Nat)) : Prop := ∀ (j : Nat) (y : Nat × Nat), xs[j]? = some y → ∃ mo t rs, kc m S (g j) (kSo y.1 y.2 (zpts M p pa f mf y.1 - zpts M p pa f mf y.2) (zrm (zpts M p pa f mf) y.1 y.2) (zgd (zpts M p pa f mf) y.1 y.2) (zsl pa (zpts M p pa f mf) y.1 y.2) (some mo) (some rs)) ∧ kc m S mo (kMo t 1) ∧ kc m S t (kI 7 (zvm pa (zsl pa (zpts M p pa f mf) y.1 y.2))) ∧ kc m S rs (kI 9 (zside M p pa f (zpts M p pa f mf) y).2.2.2.2.2.2.2)
def kKr (m : Nat → Prop) (S : hH) (kn : Nat → Nat) (M p : Int) (f : Nat → Int) (i : Nat) (x : zP × Nat) : Prop :=
  ∃ (ab bb : Option Nat) (root : Int) (ka : Nat) (wo : Int) (pt sl E cap : Nat) (g : Nat → Nat) (fe : Nat → Option Nat) (v : Int32),
    kc m S (kn i) (kKo ab bb root (zpL x.1) x.2 i ka (zpD x.1 (zpL x.1)) wo pt sl (zfst (zpts M p x.1 f x.2) x.2 : Nat) (zindex (zpts M p x.1 f x.2) x.2)) ∧ zpA x.1 (zpL x.1) = i ∧ ((zpL x.1 = 1 ∧ ab = none) ∨ (zpL x.1 ≠ 1 ∧ zpA x.1 (zpL x.1 - 1) < i ∧ ab = some (kn (zpA x.1 (zpL x.1 - 1))))) ∧ kc m S ka (kJ 9 (zpK x.1 (zpL x.1))) ∧ kc m S pt (kI 9 (zpts M p x.1 f x.2)) ∧ kc m S sl (kO 16 [.int v, .ref E, .int (i32 (zhull (zpts M p x.1 f x.2) x.2).length)]) ∧ kc m S E (kQ 3 cap fe) ∧ (∀ j, j < (zhull (zpts M p x.1 f x.2) x.2).length → fe j = some (g j)) ∧ (zhull (zpts M p x.1 f x.2) x.2).length ≤ cap ∧ cap ≤ 1000 ∧ kSr m S M p f x.1 x.2 g (zhull (zpts M p x.1 f x.2) x.2)
def kKrs (m : Nat → Prop) (S : hH) (kn : Nat → Nat) (M p : Int) (f : Nat → Int) (lo : Nat) (ks : List (zP × Nat)) : Prop := ∀ (i : Nat) (x : zP × Nat), lo ≤ i → ks[i]? = some x → kKr m S kn M p f i x
theorem kSo_n {a b f r d v a' b' f' r' d' v' : Int} {mo mo' : Option Nat} {rs : Nat} : kSo a b f r d v mo (some rs) ≠ kSo a' b' f' r' d' v' mo' none := by
  intro e
  have h : kvN ([.int (i32 a), .int (i32 b), .int (i32 f), .int (i32 r), .int (i32 d), .int (i32 v), va_rf mo, va_rf (some rs)] : List Value)[7]? = kvN ([.int (i32 a'), .int (i32 b'), .int (i32 f'), .int (i32 r'), .int (i32 d'), .int (i32 v'), va_rf mo', va_rf none] : List Value)[7]? := by
    injection e with e
    injection e with _ e
    rw [e]
  cases h
theorem kKrs.fr {m m' : Nat → Prop} {S S1 : hH} {kn kn' : Nat → Nat} {M p : Int} {f : Nat → Int} {lo : Nat} {ks : List (zP × Nat)} (h : kKrs m S kn M p f lo ks) (hf : ∀ q y, (∀ fs, y ≠ kO 17 fs) → (∀ a b f r d v mo, y ≠ kSo a b f r d v mo none) → kc m S q y → kc m' S1 q y) (hk : ∀ i, i < ks.length → kn' i = kn i) : kKrs m' S1 kn' M p f lo ks := by
  intro i x hi hx
  have hil := (List.getElem?_eq_some_iff.mp hx).1
  obtain ⟨ab, bb, root, ka, wo, pt, sl, E, cap, g, fe, v, h1, h2, h3, h4, h5, h6, h7, h8, h9, h10, h11⟩ := h i x hi hx
  have n9 : ∀ {fs : List Value} {a b f r d v : Int} {mo : Option Nat} {c : Nat}, c ≠ 15 → kO c fs ≠ kSo a b f r d v mo none := by
    intro fs a b f r d v mo c hc e
    injection e with e
    injection e with e _
    exact hc e
  refine ⟨ab, bb, root, ka, wo, pt, sl, E, cap, g, fe, v, ?_, h2, ?_, hf _ _ (fun _ e => by cases e) (fun _ _ _ _ _ _ _ e => by cases e) h4, hf _ _ (fun _ e => by cases e) (fun _ _ _ _ _ _ _ e => by cases e) h5, hf _ _ (fun _ e => by cases e) (fun _ _ _ _ _ _ _ => n9 (by decide)) h6, hf _ _ (fun _ e => by cases e) (fun _ _ _ _ _ _ _ e => by cases e) h7, h8, h9, h10, fun j y hy => ?_⟩
  · rw [hk i hil]
    exact hf _ _ (fun _ e => by cases e) (fun _ _ _ _ _ _ _ => n9 (by decide)) h1
  · rcases h3 with h3 | ⟨h3, h3', h3''⟩
    · exact Or.inl h3
    · exact Or.inr ⟨h3, h3', by rw [hk _ (by omega)]; exact h3''⟩
  · obtain ⟨mo, t, rs, s1, s2, s3, s4⟩ := h11 j y hy
    exact ⟨mo, t, rs, hf _ _ (fun _ e => by cases e) (fun _ _ _ _ _ _ _ => kSo_n) s1, hf _ _ (fun _ e => by cases e) (fun _ _ _ _ _ _ _ => n9 (by decide)) s2, hf _ _ (fun _ e => by cases e) (fun _ _ _ _ _ _ _ e => by cases e) s3, hf _ _ (fun _ e => by cases e) (fun _ _ _ _ _ _ _ e => by cases e) s4⟩
/-- what is asked of growing, d levels below -/
def kGrow (Kc A h : Nat → Nat) (p M : Int) (tr : Option Nat) (dg : Int) (f : Nat → Int) (d : Nat) (self : Nat → Nat → hH → Nat → Nat → (hH → Prop) → Prop) : Prop :=
  ∀ (pa : zP) (mf : Nat) (Tt : zT) (S : hH) (kn lf : Nat → Nat) (E1 E2 : Nat) (ab bb : Option Nat) (root : Int) (ka pt sl : Nat) (v0 : Int32) (w sd : Nat → Nat) (mc ms : Nat) (Q : hH → Prop),
    zGood M p pa → zKm pa → zpL pa + d = 7 → 2 ≤ mf → mf ≤ 8 → mf * zpD pa (zpL pa) ≤ 8 → zpA pa (zpL pa) = Tt.1.length → zCap M p f (mf * zpD pa (zpL pa)) d Tt →
    kTg Kc A h p M tr dg f E1 E2 S kn lf Tt → kWy (kMu Kc A h E1 E2) S w sd pa → (∀ k, 1 ≤ k → k < zpL pa → w k = kn (zpA pa k) ∧ zpA pa k < Tt.1.length) →
    kc (kMu Kc A h E1 E2) S (w (zpL pa)) (kKo ab bb root (zpL pa) mf Tt.1.length ka (zpD pa (zpL pa)) (zlift pa) pt sl 0 0) → kc (kMu Kc A h E1 E2) S pt (kI 9 (fun _ => 0)) → kc (kMu Kc A h E1 E2) S sl (kO 16 [.int v0, .ref (Kc 0), .int (i32 0)]) →
    300 * (mf * zpD pa (zpL pa)) * d ≤ mc → 3000 * (mf * zpD pa (zpL pa)) * d ≤ ms →
    (∀ S1 kn' lf' E1' E2', kTg Kc A h p M tr dg f E1' E2' S1 kn' lf' (zGk M p f d pa mf Tt) → (∀ i, i < Tt.1.length → kn' i = kn i) → kKrs (kMu Kc A h E1' E2') S1 kn' M p f Tt.1.length (zGk M p f d pa mf Tt).1 → (∀ q y, q ≠ w (zpL pa) → q ≠ pt → q ≠ sl → kc (kMu Kc A h E1 E2) S q y → kc (kMu Kc A h E1' E2') S1 q y) → Q S1) →
    self mc ms S (h 0) (w (zpL pa)) Q
theorem kTg.it {Kc A h : Nat → Nat} {p M : Int} {tr : Option Nat} {dg : Int} {f : Nat → Int} {E1 E2 : Nat} {S : hH} {kn lf : Nat → Nat} {Tt : zT} (hh : kHs A h) (hA0 : ∀ k, k < 90 → Kc 0 ≠ A k) (hA : ∀ k, 1 ≤ k → k < 77 → A 0 ≠ A k) (ht : kTg Kc A h p M tr dg f E1 E2 S kn lf Tt) {it : Nat} {fs : List Value} (oi : S it = some (kO 17 fs)) (y : hE_) : kTg Kc A h p M tr dg f E1 E2 (hup S it y) kn lf Tt := by
  obtain ⟨hd, hv, oT⟩ := ht.2.1
  have iP := ht.2.2.1
  have n0 : h 0 ≠ it := kne2 oT oi (by intro e; cases e)
  have n3 : h 3 ≠ it := kne2 iP oi (by intro e; cases e)
  refine ht.keep hh (X := fun q => q = it) (fun q z hq _ _ _ hx => by rw [hup_ne hx]; exact hq) (fun q e => Or.inr (Or.inl ⟨17, fs, by rw [e]; exact oi, Or.inr rfl⟩)) ?_ ⟨hd, hv, by rw [hup_ne n0]; exact oT⟩ (by rw [hup_ne n3]; exact iP) hA (fun k _ k2 => hA0 k (by omega)) ht.h4s
  refine ht.1.2.1.keep (fun k k1 k2 z hz => ?_)
  have hsc := ht.scn oi (fun _ _ e => by cases e) (fun _ _ e => by cases e) (fun _ _ _ e => by cases e)
  rw [hup_ne (fun e => hsc ⟨k, k1, k2, e.symm⟩)]
  exact hz
