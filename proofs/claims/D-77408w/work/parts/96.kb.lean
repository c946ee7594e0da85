/-! CLASS 28: the tree takes a leaf, a knot -/
set_option maxRecDepth 100000
theorem kTg.scn {Kc A h : Nat → Nat} {p M : Int} {tr : Option Nat} {dg : Int} {f : Nat → Int} {E1 E2 : Nat} {S : hH} {kn lf : Nat → Nat} {Tt : zT} (ht : kTg Kc A h p M tr dg f E1 E2 S kn lf Tt) {q : Nat} {y : hE_} (hq : S q = some y) (n1 : ∀ n g, y ≠ kJ n g) (n2 : ∀ n g, y ≠ kI n g) (n3 : ∀ t n g, y = kQ t n g → t = 3) : ¬ kSc A q := by
  have hs := ht.1.2.1
  rintro ⟨k, k1, k2, e⟩
  by_cases d1 : (1 ≤ k ∧ k ≤ 2) ∨ (14 ≤ k ∧ k < 77)
  · obtain ⟨g, e1⟩ := hs.j k d1
    rw [← e, hq] at e1; injection e1 with e1; exact n1 _ _ e1
  · by_cases d2 : k ≤ 5
    · obtain ⟨g, e1⟩ := hs.2.1 k (by omega) d2
      rw [← e, hq] at e1; injection e1 with e1; exact n2 _ _ e1
    · by_cases d3 : k = 6
      · obtain ⟨g, e1, _⟩ := hs.2.2.1
        rw [← d3, ← e, hq] at e1; injection e1 with e1
        have := n3 _ _ _ e1
        omega
      · obtain ⟨g, e1, _⟩ := hs.2.2.2.1 (k - 7) (by omega)
        rw [show 7 + (k - 7) = k from by omega, ← e, hq] at e1; injection e1 with e1
        have := n3 _ _ _ e1
        omega
/-- a list of the tree's at i (1: knots, 2: leaves) is given another element -/
theorem kTg_add {Kc A h : Nat → Nat} {p M : Int} {tr : Option Nat} {dg : Int} {f : Nat → Int} {E1 E2 : Nat} {S : hH} {kn lf : Nat → Nat} {Tt : zT} (hh : kHs A h) (hA0 : ∀ k, k < 90 → Kc 0 ≠ A k) (ht : kTg Kc A h p M tr dg f E1 E2 S kn lf Tt) {S1 : hH} {Ls E E' F1 F2 : Nat} (hi : (Ls = h 1 ∧ E = E1 ∧ F1 = E' ∧ F2 = E2) ∨ (Ls = h 2 ∧ E = E2 ∧ F1 = E1 ∧ F2 = E')) (hE : E' = E ∨ S E' = none) (hfr : ∀ q y, S q = some y → q ≠ Ls → (q ≠ E ∨ q = Kc 0) → S1 q = some y) :
    kG (kMu Kc A h E1 E2) (kMu Kc A h F1 F2) S S1 ∧ kScr A S1 ∧ S1 (A 0) = some (kOb A p M tr) ∧ kKc Kc S1 ∧ (∃ hd hv, S1 (h 0) = some (kTo (h 4) dg (h 1) (h 2) (h 3) hd hv (A 0))) ∧ S1 (h 3) = some (kI 7 (fun _ => 0)) := by
  obtain ⟨⟨o0, hs, ⟨fk, hk⟩⟩, ⟨hd, hv, oT0⟩, iP0, h4, ⟨c1, a1, b1⟩, ⟨c2, a2, b2⟩, e12, hkn, hlv⟩ := ht
  obtain ⟨⟨v1, L1⟩, ⟨fe1, q1, _⟩, _⟩ := a1
  obtain ⟨⟨v2, L2⟩, ⟨fe2, q2, _⟩, _⟩ := a2
  have oL : ∃ fs, S Ls = some (kO 16 fs) := by
    rcases hi with ⟨e, _⟩ | ⟨e, _⟩
    · exact ⟨_, by rw [e]; exact L1⟩
    · exact ⟨_, by rw [e]; exact L2⟩
  have qE : ∃ c fe, S E = some (kQ 3 c fe) := by
    rcases hi with ⟨_, e, _⟩ | ⟨_, e, _⟩
    · exact ⟨_, _, by rw [e]; exact q1⟩
    · exact ⟨_, _, by rw [e]; exact q2⟩
  obtain ⟨fsL, oL⟩ := oL
  obtain ⟨cE, feE, qE⟩ := qE
  have k1 : ∀ q y, S q = some y → (∀ fs, y ≠ kO 16 fs) → (∀ c fe, y ≠ kQ 3 c fe) → S1 q = some y := by
    intro q y hq n1 n2
    refine hfr q y hq (fun e => ?_) (Or.inl (fun e => ?_))
    · rw [e, oL] at hq; injection hq with hq; exact n1 _ hq.symm
    · rw [e, qE] at hq; injection hq with hq; exact n2 _ _ hq.symm
  refine ⟨fun q y hq => ?_, ?_, k1 _ _ o0 (fun _ e => by cases e) (fun _ _ e => by cases e), ⟨fk, ?_⟩, ⟨hd, hv, k1 _ _ oT0 (fun _ e => by cases e) (fun _ _ e => by cases e)⟩, k1 _ _ iP0 (fun _ e => by cases e) (fun _ _ e => by cases e)⟩
  · have hm := hq.2
    have hnL : q ≠ Ls := by
      intro e
      rcases hi with ⟨e1, _⟩ | ⟨e1, _⟩
      · exact hm (Or.inr (Or.inr (Or.inl (e.trans e1))))
      · exact hm (Or.inr (Or.inr (Or.inr (Or.inl (e.trans e1)))))
    have hnE : q ≠ E ∨ q = Kc 0 := by
      by_cases c : q = Kc 0
      · exact Or.inr c
      · refine Or.inl (fun e => hm (Or.inr (Or.inr (Or.inr (Or.inr (Or.inr ⟨c, ?_⟩))))))
        rcases hi with ⟨_, e1, _⟩ | ⟨_, e1, _⟩
        · exact Or.inl (e.trans e1)
        · exact Or.inr (e.trans e1)
    refine ⟨hfr q y hq.1 hnL hnE, ?_⟩
    rintro (h1 | h1 | h1 | h1 | h1 | ⟨hc, h1⟩)
    · exact hm (Or.inl h1)
    · exact hm (Or.inr (Or.inl h1))
    · exact hm (Or.inr (Or.inr (Or.inl h1)))
    · exact hm (Or.inr (Or.inr (Or.inr (Or.inl h1))))
    · exact hm (Or.inr (Or.inr (Or.inr (Or.inr (Or.inl h1)))))
    · have hq' : q ≠ E' := by
        intro e
        rcases hE with h2 | h2
        · rcases hnE with h3 | h3
          · exact h3 (e.trans h2)
          · exact hc h3
        · have := hq.1; rw [e, h2] at this; cases this
      have hE1 : q ≠ E1 := fun e => hm (Or.inr (Or.inr (Or.inr (Or.inr (Or.inr ⟨hc, Or.inl e⟩)))))
      have hE2 : q ≠ E2 := fun e => hm (Or.inr (Or.inr (Or.inr (Or.inr (Or.inr ⟨hc, Or.inr e⟩)))))
      rcases hi with ⟨_, _, e1, e2⟩ | ⟨_, _, e1, e2⟩
      · rcases h1 with h1 | h1
        · exact hq' (h1.trans e1)
        · exact hE2 (h1.trans e2)
      · rcases h1 with h1 | h1
        · exact hE1 (h1.trans e1)
        · exact hq' (h1.trans e2)
  · refine hs.keep (fun k k1' k2' y hy => ?_)
    refine hfr _ y hy ?_ ?_
    · rcases hi with ⟨e1, _⟩ | ⟨e1, _⟩
      · rw [e1]; exact (hh.1 k (by omega)).2.1
      · rw [e1]; exact (hh.1 k (by omega)).2.2.1
    · refine Or.inl (fun e => ?_)
      have hy2 := hy
      rw [e, qE] at hy2
      injection hy2 with hy2
      by_cases d1 : (1 ≤ k ∧ k ≤ 2) ∨ (14 ≤ k ∧ k < 77)
      · obtain ⟨g, e1⟩ := hs.j k d1
        rw [hy] at e1; rw [← hy2] at e1; cases e1
      · by_cases d2 : k ≤ 5
        · obtain ⟨g, e1⟩ := hs.2.1 k (by omega) d2
          rw [hy] at e1; rw [← hy2] at e1; cases e1
        · by_cases d3 : k = 6
          · obtain ⟨g, e1, _⟩ := hs.2.2.1
            rw [← d3, hy] at e1; rw [← hy2] at e1; cases e1
          · obtain ⟨g, e1, _⟩ := hs.2.2.2.1 (k - 7) (by omega)
            rw [show 7 + (k - 7) = k from by omega, hy] at e1; rw [← hy2] at e1; cases e1
  · refine hfr _ _ hk ?_ (Or.inr rfl)
    intro e
    rw [e, oL] at hk
    cases hk
theorem kTg.h4s {Kc A h : Nat → Nat} {p M : Int} {tr : Option Nat} {dg : Int} {f : Nat → Int} {E1 E2 : Nat} {S : hH} {kn lf : Nat → Nat} {Tt : zT} (ht : kTg Kc A h p M tr dg f E1 E2 S kn lf Tt) : ∀ k, k < 77 → h 4 ≠ A k := by
  intro k hk e
  by_cases c : k = 0
  · have h1 := ht.1.1
    have h2 := ht.2.2.2.1.1
    rw [e, c, h1] at h2
    cases h2
  · exact ht.2.2.2.1.2 (Or.inl ⟨k, by omega, hk, e⟩)
theorem kTg.ext {Kc A h : Nat → Nat} {p M : Int} {tr : Option Nat} {dg : Int} {f : Nat → Int} {E1 E2 : Nat} {S S1 : hH} {kn lf : Nat → Nat} {Tt : zT} (hh : kHs A h) (hA0 : ∀ k, k < 90 → Kc 0 ≠ A k) (hA : ∀ k, 1 ≤ k → k < 77 → A 0 ≠ A k) (ht : kTg Kc A h p M tr dg f E1 E2 S kn lf Tt) (hF : kF kN S S1) : kTg Kc A h p M tr dg f E1 E2 S1 kn lf Tt := by
  obtain ⟨hd, hv, oT⟩ := ht.2.1
  refine ht.keep hh (X := fun _ => False) (fun q y hq _ _ _ _ => hF q y hq (fun h => h)) (fun q h => h.elim) (ht.1.2.1.keep (fun k _ _ y hy => hF _ y hy (fun h => h))) ⟨hd, hv, hF _ _ oT (fun h => h)⟩ (hF _ _ ht.2.2.1 (fun h => h)) hA (fun k _ k2 => hA0 k (by omega)) ht.h4s
theorem kTg.leaf {Kc A h : Nat → Nat} {p M : Int} {tr : Option Nat} {dg : Int} {f : Nat → Int} {E1 E2 : Nat} {S : hH} {kn lf : Nat → Nat} {Tt : zT} (hh : kHs A h) (hA0 : ∀ k, k < 90 → Kc 0 ≠ A k) (ht : kTg Kc A h p M tr dg f E1 E2 S kn lf Tt) {q : Nat} {l : zL} (hq : kc (kMu Kc A h E1 E2) S q (kLc kn l)) (hl : l.2.2.2.2 < Tt.1.length) {S1 : hH} {E' c' : Nat} (hL1 : kAL Kc S1 (h 2) E' (Tt.2.length + 1) c' (kap Tt.2.length q lf)) (hc' : c' ≤ 10) (hE : E' = E2 ∨ S E' = none) (hfr : ∀ q y, S q = some y → q ≠ h 2 → (q ≠ E2 ∨ q = Kc 0) → S1 q = some y) :
    kTg Kc A h p M tr dg f E1 E' S1 kn (kap Tt.2.length q lf) (Tt.1, Tt.2 ++ [l]) ∧ kG (kMu Kc A h E1 E2) (kMu Kc A h E1 E') S S1 := by
  obtain ⟨g1, g2, g3, g4, g5, g6⟩ := kTg_add hh hA0 ht (Ls := h 2) (E := E2) (E' := E') (F1 := E1) (F2 := E') (Or.inr ⟨rfl, rfl, rfl, rfl⟩) hE hfr
  obtain ⟨⟨o0, hs, ⟨fk, hk⟩⟩, ⟨hd, hv, oT0⟩, iP0, h4, ⟨c1, a1, b1⟩, ⟨c2, a2, b2⟩, e12, hkn, hlv⟩ := ht
  have nL : h 1 ≠ h 2 := hh.2
  have e1' : E1 ≠ E2 ∨ E1 = Kc 0 := e12
  obtain ⟨⟨v2, L2⟩, ⟨fe2, q2, _⟩, _⟩ := a2
  refine ⟨⟨⟨g3, g2, g4⟩, g5, g6, g1 _ _ h4, ⟨c1, ?_, b1⟩, ⟨c', ?_, hc'⟩, ?_, ?_, ?_⟩, g1⟩
  · obtain ⟨⟨v, x1⟩, ⟨fe, x2, x3⟩, x4⟩ := a1
    refine ⟨⟨v, hfr _ _ x1 nL (Or.inl (fun e => ?_))⟩, ⟨fe, hfr _ _ x2 (fun e => ?_) e1', x3⟩, x4⟩
    · rw [e, q2] at x1; cases x1
    · rw [e, L2] at x2; cases x2
  · rw [List.length_append, List.length_singleton]
    exact hL1
  · by_cases c : E1 = Kc 0
    · exact Or.inr c
    · refine Or.inl (fun e => ?_)
      obtain ⟨_, ⟨fe, x2, _⟩, _⟩ := a1
      rcases hE with h1 | h1
      · rcases e1' with h2 | h2
        · exact h2 (e.trans h1)
        · exact c h2
      · rw [← e, x2] at h1; cases h1
  · intro i hi
    obtain ⟨fs, e⟩ := hkn i hi
    refine ⟨fs, hfr _ _ e (fun e1 => ?_) (Or.inl (fun e1 => ?_))⟩
    · have e : S (kn i) = some (kO 9 fs) := e
      rw [e1, L2] at e; cases e
    · have e : S (kn i) = some (kO 9 fs) := e
      rw [e1, q2] at e; cases e
  · intro j y hy
    rw [List.getElem?_append] at hy
    by_cases c : j < Tt.2.length
    · rw [if_pos c] at hy
      rw [kap_ne _ _ _ (by omega)]
      obtain ⟨x1, x2⟩ := hlv j y hy
      exact ⟨g1 _ _ x1, x2⟩
    · rw [if_neg c] at hy
      have hi : j - Tt.2.length = 0 := by
        have := (List.getElem?_eq_some_iff.mp hy).1
        rw [List.length_singleton] at this
        omega
      rw [hi] at hy
      cases hy
      rw [kap_at _ _ _ (by omega)]
      exact ⟨g1 _ _ hq, hl⟩
theorem kTg.knot {Kc A h : Nat → Nat} {p M : Int} {tr : Option Nat} {dg : Int} {f : Nat → Int} {E1 E2 : Nat} {S : hH} {kn lf : Nat → Nat} {Tt : zT} (hh : kHs A h) (hA0 : ∀ k, k < 90 → Kc 0 ≠ A k) (ht : kTg Kc A h p M tr dg f E1 E2 S kn lf Tt) {q : Nat} {x : zP × Nat} (hq : hoC S q 9) {S1 : hH} {E' c' : Nat} (hL1 : kAL Kc S1 (h 1) E' (Tt.1.length + 1) c' (kap Tt.1.length q kn)) (hc' : c' ≤ 40) (hE : E' = E1 ∨ S E' = none) (hfr : ∀ q y, S q = some y → q ≠ h 1 → (q ≠ E1 ∨ q = Kc 0) → S1 q = some y) :
    kTg Kc A h p M tr dg f E' E2 S1 (kap Tt.1.length q kn) lf (Tt.1 ++ [x], Tt.2) ∧ kG (kMu Kc A h E1 E2) (kMu Kc A h E' E2) S S1 := by
  obtain ⟨g1, g2, g3, g4, g5, g6⟩ := kTg_add hh hA0 ht (Ls := h 1) (E := E1) (E' := E') (F1 := E') (F2 := E2) (Or.inl ⟨rfl, rfl, rfl, rfl⟩) hE hfr
  obtain ⟨⟨o0, hs, ⟨fk, hk⟩⟩, ⟨hd, hv, oT0⟩, iP0, h4, ⟨c1, a1, b1⟩, ⟨c2, a2, b2⟩, e12, hkn, hlv⟩ := ht
  have nL : h 2 ≠ h 1 := fun e => hh.2 e.symm
  obtain ⟨⟨v1, L1⟩, ⟨fe1, q1, _⟩, _⟩ := a1
  have k9 : ∀ z, hoC S z 9 → hoC S1 z 9 := by
    rintro z ⟨fs, e⟩
    have e : S z = some (kO 9 fs) := e
    refine ⟨fs, hfr _ _ e (fun e1 => ?_) (Or.inl (fun e1 => ?_))⟩
    · rw [e1, L1] at e; cases e
    · rw [e1, q1] at e; cases e
  refine ⟨⟨⟨g3, g2, g4⟩, g5, g6, g1 _ _ h4, ⟨c', ?_, hc'⟩, ⟨c2, ?_, b2⟩, ?_, ?_, ?_⟩, g1⟩
  · rw [List.length_append, List.length_singleton]
    exact hL1
  · obtain ⟨⟨v, x1⟩, ⟨fe, x2, x3⟩, x4⟩ := a2
    refine ⟨⟨v, hfr _ _ x1 nL (Or.inl (fun e => ?_))⟩, ⟨fe, hfr _ _ x2 (fun e => ?_) ?_, x3⟩, x4⟩
    · rw [e, q1] at x1; cases x1
    · rw [e, L1] at x2; cases x2
    · by_cases c : E2 = Kc 0
      · exact Or.inr c
      · refine Or.inl (fun e => ?_)
        rcases e12 with h2 | h2
        · exact h2 e.symm
        · exact c (e.trans h2)
  · by_cases c : E' = Kc 0
    · exact Or.inr c
    · refine Or.inl (fun e => ?_)
      obtain ⟨_, ⟨fe, x2, _⟩, _⟩ := a2
      rcases hE with h1 | h1
      · rcases e12 with h2 | h2
        · exact h2 (h1.symm.trans e)
        · exact c (h1.trans h2)
      · rw [e, x2] at h1; cases h1
  · intro i hi
    rw [List.length_append, List.length_singleton] at hi
    by_cases c : i = Tt.1.length
    · rw [kap_at _ _ _ c]
      exact k9 q hq
    · rw [kap_ne _ _ _ c]
      exact k9 _ (hkn i (by omega))
  · intro j y hy
    obtain ⟨x1, x2⟩ := hlv j y hy
    rw [kLc_congr x2 (kn' := kap Tt.1.length q kn) (fun i hi => kap_ne _ _ _ (by omega))]
    refine ⟨g1 _ _ x1, ?_⟩
    rw [List.length_append, List.length_singleton]
    omega
