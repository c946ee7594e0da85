/-! CLASS 36: grows: the state of the points' loop -/
set_option maxRecDepth 100000
theorem kTg.sl {Kc A h : Nat → Nat} {p M : Int} {tr : Option Nat} {dg : Int} {f : Nat → Int} {E1 E2 : Nat} {S S1 : hH} {kn lf : Nat → Nat} {Tt : zT} (ht : kTg Kc A h p M tr dg f E1 E2 S kn lf Tt) {sl : Nat} {fs : List Value} (os : S sl = some (kO 16 fs)) (msl : ¬ kMu Kc A h E1 E2 sl) (hF : ∀ q y, S q = some y → q ≠ sl → S1 q = some y) : kTg Kc A h p M tr dg f E1 E2 S1 kn lf Tt := by
  obtain ⟨⟨o0, hs, ⟨fk, hk⟩⟩, ⟨hd, hv, oT0⟩, iP0, h4, ⟨c1, a1, b1⟩, ⟨c2, a2, b2⟩, e12, hkn, hlv⟩ := ht
  have al : ∀ L E n c g, L ≠ sl → kAL Kc S L E n c g → kAL Kc S1 L E n c g := by
    intro L E n c g hn ⟨⟨v, e1⟩, ⟨fe, e2, e3⟩, e4⟩
    exact ⟨⟨v, hF _ _ e1 hn⟩, ⟨fe, hF _ _ e2 (kne2 e2 os (by intro e; cases e)), e3⟩, e4⟩
  refine ⟨⟨hF _ _ o0 (kne2 o0 os (by intro e; cases e)), hs.keep (fun k k1 k2 y hy => hF _ _ hy (fun e => msl (Or.inl ⟨k, k1, k2, e.symm⟩))), ⟨fk, hF _ _ hk (kne2 hk os (by intro e; cases e))⟩⟩, ⟨hd, hv, hF _ _ oT0 (kne2 oT0 os (by intro e; cases e))⟩, hF _ _ iP0 (kne2 iP0 os (by intro e; cases e)), ⟨hF _ _ h4.1 (kne2 h4.1 os (by intro e; cases e)), h4.2⟩, ⟨c1, al _ _ _ _ _ (fun e => msl (Or.inr (Or.inr (Or.inl e.symm)))) a1, b1⟩, ⟨c2, al _ _ _ _ _ (fun e => msl (Or.inr (Or.inr (Or.inr (Or.inl e.symm))))) a2, b2⟩, e12, fun i hi => ?_, fun j l hl => ?_⟩
  · obtain ⟨fs', e⟩ := hkn i hi
    exact ⟨fs', hF _ _ e (kne2 e os (by intro e; cases e))⟩
  · obtain ⟨⟨e1, e2⟩, e3⟩ := hlv j l hl
    obtain ⟨c, fs', ec, hc⟩ := kLc_cl kn l
    refine ⟨⟨hF _ _ e1 (fun e => ?_), e2⟩, e3⟩
    rw [ec] at e1
    rw [e, os] at e1
    injection e1 with e1
    injection e1 with e1
    injection e1 with e1 _
    omega
/-- the knot's cell and what hangs on it may change: the way stays -/
theorem kWy.kn_ {m m' : Nat → Prop} {S S1 : hH} {w sd : Nat → Nat} {pa : zP} (h : kWy m S w sd pa) (hL : 1 ≤ zpL pa ∧ zpL pa ≤ 6) {pt : Nat} {g : Nat → Int} (ip : S pt = some (kI 9 g)) {ab bb : Option Nat} {root mf nu wo fi ix mf' nu' wo' fi' ix' : Int} {ka pt' sl pt2 sl2 : Nat} (oo : S (w (zpL pa)) = some (kKo ab bb root (zpL pa) mf nu ka (zpD pa (zpL pa)) wo pt' sl fi ix)) (oo1 : kc m' S1 (w (zpL pa)) (kKo ab bb root (zpL pa) mf' nu' ka (zpD pa (zpL pa)) wo' pt2 sl2 fi' ix')) (hg : ∀ q y, q ≠ w (zpL pa) → q ≠ pt → (∀ fs, y ≠ kO 16 fs) → kc m S q y → kc m' S1 q y) : kWy m' S1 w sd pa := by
  have n9 : ∀ {fs : List Value} {c : Nat}, c ≠ 16 → ∀ fs', kO c fs ≠ kO 16 fs' := by
    intro fs c hc fs' e
    injection e with e
    injection e with e _
    exact hc e
  refine ⟨fun k h1 h2 => ?_, fun k h1 h2 => ?_⟩
  · obtain ⟨root', mf2, nu2, ka', wo2, pt3, sl3, fi2, ix2, a, b, c⟩ := h.1 k h1 h2
    by_cases ck : k = zpL pa
    · subst ck
      have e := a.1
      rw [oo] at e
      injection e with e
      have el : ([va_rf ab, va_rf bb, .int (i32 root), .int (i32 (zpL pa : Int)), .int (i32 mf), .int (i32 nu), .ref ka, .int (i32 (zpD pa (zpL pa) : Int)), .int (i32 wo), .ref pt', .ref sl, .int (i32 fi), .int (i32 ix)] : List Value) = [va_rf (kup w (zpL pa)), va_rf (kup sd (zpL pa)), .int (i32 root'), .int (i32 (zpL pa : Int)), .int (i32 mf2), .int (i32 nu2), .ref ka', .int (i32 (zpD pa (zpL pa) : Int)), .int (i32 wo2), .ref pt3, .ref sl3, .int (i32 fi2), .int (i32 ix2)] := by
        injection e with e
        injection e with _ e
      have e0 : va_rf ab = va_rf (kup w (zpL pa)) := by
        injection el
      have e1 : va_rf bb = va_rf (kup sd (zpL pa)) := by
        injection el with _ el; injection el
      have e2 : Value.int (i32 root) = Value.int (i32 root') := by
        injection el with _ el; injection el with _ el; injection el
      have e6 : Value.ref ka = Value.ref ka' := by
        injection el with _ el; injection el with _ el; injection el with _ el; injection el with _ el; injection el with _ el; injection el with _ el; injection el
      injection e6 with e6
      refine ⟨root', mf', nu', ka', wo', pt2, sl2, fi', ix', ?_, hg _ _ (kne2 b.1 oo (by intro e; cases e)) (kne2 b.1 ip (by intro e; cases e)) (fun _ e => by cases e) b, c⟩
      show kc m' S1 (w (zpL pa)) (kO 9 [va_rf (kup w (zpL pa)), va_rf (kup sd (zpL pa)), .int (i32 root'), .int (i32 (zpL pa : Int)), .int (i32 mf'), .int (i32 nu'), .ref ka', .int (i32 (zpD pa (zpL pa) : Int)), .int (i32 wo'), .ref pt2, .ref sl2, .int (i32 fi'), .int (i32 ix')])
      rw [← e0, ← e1, ← e2, ← e6]
      exact oo1
    · have nk : w k ≠ w (zpL pa) := by
        intro e
        have a1 := a.1
        rw [e, oo] at a1
        injection a1 with a1
        injection a1 with a1
        injection a1 with _ a1
        injection a1 with _ a1
        injection a1 with _ a1
        injection a1 with _ a1
        injection a1 with a1 _
        injection a1 with a1
        rw [i32_eq (by omega) (by omega) (by omega) (by omega)] at a1
        omega
      exact ⟨root', mf2, nu2, ka', wo2, pt3, sl3, fi2, ix2, hg _ _ nk (kne2 a.1 ip (by intro e; cases e)) (n9 (by decide)) a, hg _ _ (kne2 b.1 oo (by intro e; cases e)) (kne2 b.1 ip (by intro e; cases e)) (fun _ e => by cases e) b, c⟩
  · obtain ⟨b, e, f, dg, mo, rs, t, r, a1, a2, a3⟩ := h.2 k h1 h2
    exact ⟨b, e, f, dg, mo, rs, t, r, hg _ _ (kne2 a1.1 oo (by intro e; cases e)) (kne2 a1.1 ip (by intro e; cases e)) (n9 (by decide)) a1, hg _ _ (kne2 a2.1 oo (by intro e; cases e)) (kne2 a2.1 ip (by intro e; cases e)) (n9 (by decide)) a2, hg _ _ (kne2 a3.1 oo (by intro e; cases e)) (kne2 a3.1 ip (by intro e; injection e with e; injection e with _ e; injection e with e _; omega)) (fun _ e => by cases e) a3⟩
