/-! CLASS 27: the tree that grows: its state -/
set_option maxRecDepth 100000
/-- the tree's addresses: h 0 the tree, h 1 knots, h 2 leaves, h 3 powers, h 4 the row -/
def kMu (Kc A h : Nat → Nat) (E1 E2 : Nat) (q : Nat) : Prop := kSc A q ∨ q = h 0 ∨ q = h 1 ∨ q = h 2 ∨ q = h 3 ∨ (q ≠ Kc 0 ∧ (q = E1 ∨ q = E2))
def kmk (kn : Nat → Nat) (l : zL) : Option Nat := if l.2.2.2.2 < 0 then none else some (kn l.2.2.2.2.toNat)
noncomputable def kLc (kn : Nat → Nat) (l : zL) : hE_ := if l.1 = 0 then kO 8 [va_rf (kmk kn l), .int (i32 l.2.1), .int (i32 l.2.2.1)] else if l.1 = 1 then kO 14 [va_rf (kmk kn l), .int (i32 l.2.1), .int (i32 1)] else if l.1 = 2 then kO 11 [va_rf (kmk kn l), .int (i32 l.2.2.2.1)] else if l.1 = 3 then kO 12 [va_rf (kmk kn l), .int (i32 l.2.2.2.1)] else kO 13 [va_rf (kmk kn l), .int (i32 l.2.2.2.1)]
def kLv (m : Nat → Prop) (S : hH) (kn lf : Nat → Nat) (nk : Nat) (ls : List zL) : Prop := ∀ (j : Nat) (l : zL), ls[j]? = some l → kc m S (lf j) (kLc kn l) ∧ l.2.2.2.2 < nk
def kTg (Kc A h : Nat → Nat) (p M : Int) (tr : Option Nat) (dg : Int) (f : Nat → Int) (E1 E2 : Nat) (S : hH) (kn lf : Nat → Nat) (Tt : zT) : Prop :=
  (S (A 0) = some (kOb A p M tr) ∧ kScr A S ∧ kKc Kc S) ∧ (∃ hd hv, S (h 0) = some (kTo (h 4) dg (h 1) (h 2) (h 3) hd hv (A 0))) ∧ S (h 3) = some (kI 7 (fun _ => 0)) ∧ kc (kMu Kc A h E1 E2) S (h 4) (kJ 9 f) ∧ (∃ c, kAL Kc S (h 1) E1 Tt.1.length c kn ∧ c ≤ 40) ∧ (∃ c, kAL Kc S (h 2) E2 Tt.2.length c lf ∧ c ≤ 10) ∧ (E1 ≠ E2 ∨ E1 = Kc 0) ∧ (∀ i, i < Tt.1.length → hoC S (kn i) 9) ∧ kLv (kMu Kc A h E1 E2) S kn lf Tt.1.length Tt.2
/-- how the tree's addresses lie -/
def kHs (A h : Nat → Nat) : Prop := (∀ k, k < 90 → A k ≠ h 0 ∧ A k ≠ h 1 ∧ A k ≠ h 2 ∧ A k ≠ h 3) ∧ h 1 ≠ h 2
theorem kLc_cl (kn : Nat → Nat) (l : zL) : ∃ c fs, kLc kn l = kO c fs ∧ (c = 8 ∨ c = 14 ∨ c = 11 ∨ c = 12 ∨ c = 13) := by
  unfold kLc
  split
  · exact ⟨_, _, rfl, Or.inl rfl⟩
  · split
    · exact ⟨_, _, rfl, Or.inr (Or.inl rfl)⟩
    · split
      · exact ⟨_, _, rfl, Or.inr (Or.inr (Or.inl rfl))⟩
      · split
        · exact ⟨_, _, rfl, Or.inr (Or.inr (Or.inr (Or.inl rfl)))⟩
        · exact ⟨_, _, rfl, Or.inr (Or.inr (Or.inr (Or.inr rfl)))⟩
theorem kLc_congr {kn kn' : Nat → Nat} {l : zL} {n : Nat} (hl : l.2.2.2.2 < n) (h : ∀ i, i < n → kn' i = kn i) : kLc kn' l = kLc kn l := by
  have : kmk kn' l = kmk kn l := by
    unfold kmk
    by_cases c : l.2.2.2.2 < 0
    · rw [if_pos c, if_pos c]
    · rw [if_neg c, if_neg c, h _ (by omega)]
  unfold kLc
  rw [this]
/-- tree cells are kept where nothing of theirs changes -/
theorem kTg.keep {Kc A h : Nat → Nat} {p M : Int} {tr : Option Nat} {dg : Int} {f : Nat → Int} {E1 E2 : Nat} {S S1 : hH} {kn lf : Nat → Nat} {Tt : zT} (hA : kHs A h) (ht : kTg Kc A h p M tr dg f E1 E2 S kn lf Tt) {X : Nat → Prop} (hF : ∀ q y, S q = some y → ¬ kSc A q → q ≠ h 0 → q ≠ h 3 → ¬ X q → S1 q = some y) (hX : ∀ q, X q → (∃ fs fs', S q = some (kO 9 fs) ∧ S1 q = some (kO 9 fs')) ∨ (∃ c fs, S q = some (kO c fs) ∧ (c = 15 ∨ c = 17)) ∨ (∃ v, S q = some (kI 9 v)) ∨ S q = none) (hS : kScr A S1) (oT : ∃ hd hv, S1 (h 0) = some (kTo (h 4) dg (h 1) (h 2) (h 3) hd hv (A 0))) (iP : S1 (h 3) = some (kI 7 (fun _ => 0))) (hSc : ∀ k, 1 ≤ k → k < 77 → A 0 ≠ A k) (hKs : ∀ k, 1 ≤ k → k < 77 → Kc 0 ≠ A k) (h4s : ∀ k, k < 77 → h 4 ≠ A k) : kTg Kc A h p M tr dg f E1 E2 S1 kn lf Tt := by
  obtain ⟨⟨o0, hs, ⟨fk, hk⟩⟩, ⟨hd, hv, oT0⟩, iP0, h4, ⟨c1, a1, b1⟩, ⟨c2, a2, b2⟩, e12, hkn, hlv⟩ := ht
  have key : ∀ q y, S q = some y → (∀ k, 1 ≤ k → k < 77 → q ≠ A k) → q ≠ h 0 → q ≠ h 3 → (∀ fs, y ≠ kO 9 fs) → (∀ c fs, y = kO c fs → c ≠ 15 ∧ c ≠ 17) → (∀ v, y ≠ kI 9 v) → S1 q = some y := by
    intro q y hq h1 h2 h3 n1 n2 n3
    refine hF q y hq (fun ⟨k, k1, k2, e⟩ => h1 k k1 k2 e) h2 h3 (fun hx => ?_)
    rcases hX q hx with ⟨fs, _, e, _⟩ | ⟨c, fs, e, ec⟩ | ⟨v, e⟩ | e
    · rw [hq] at e; injection e with e; exact n1 _ e
    · rw [hq] at e; injection e with e; have := n2 c fs e; omega
    · rw [hq] at e; injection e with e; exact n3 _ e
    · rw [hq] at e; cases e
  have scn : ∀ q y, S q = some y → (∀ n g, y ≠ kJ n g) → (∀ n g, y ≠ kI n g) → (∀ t n g, y = kQ t n g → t = 3) → ∀ k, 1 ≤ k → k < 77 → q ≠ A k := by
    intro q y hq n1 n2 n3 k k1 k2 e
    by_cases d1 : (1 ≤ k ∧ k ≤ 2) ∨ (14 ≤ k ∧ k < 77)
    · obtain ⟨g, e1⟩ := hs.j k d1
      rw [← e, hq] at e1; injection e1 with e1; exact n1 _ _ e1
    · by_cases d2 : k ≤ 5
      · obtain ⟨g, e1⟩ := hs.2.1 k (by omega) d2
        rw [← e, hq] at e1; injection e1 with e1; exact n2 _ _ e1
      · by_cases d3 : k = 6
        · obtain ⟨g, e1, _⟩ := hs.2.2.1
          rw [← d3, ← e, hq] at e1; injection e1 with e1
          have := n3 _ _ _ e1
          omega
        · obtain ⟨g, e1, _⟩ := hs.2.2.2.1 (k - 7) (by omega)
          rw [show 7 + (k - 7) = k from by omega, ← e, hq] at e1; injection e1 with e1
          have := n3 _ _ _ e1
          omega
  have lst : ∀ q y, S q = some y → (∀ n g, y ≠ kJ n g) → (∀ n g, y ≠ kI n g) → (∀ t n g, y = kQ t n g → t = 3) → (∀ fs, y ≠ kO 6 fs) → (∀ fs, y ≠ kO 9 fs) → (∀ c fs, y = kO c fs → c ≠ 15 ∧ c ≠ 17) → S1 q = some y := by
    intro q y hq n1 n2 n3 n4 n5 n6
    refine key q y hq (scn q y hq n1 n2 n3) ?_ ?_ n5 n6 (n2 9)
    · intro e; rw [e, oT0] at hq; injection hq with hq; exact n4 _ hq.symm
    · intro e; rw [e, iP0] at hq; injection hq with hq; exact n2 _ _ hq.symm
  have al : ∀ L E n c g, kAL Kc S L E n c g → kAL Kc S1 L E n c g := by
    intro L E n c g ⟨⟨v, e1⟩, ⟨fe, e2, e3⟩, e4⟩
    refine ⟨⟨v, lst _ _ e1 (fun _ _ e => by cases e) (fun _ _ e => by cases e) (fun _ _ _ e => by cases e) (fun _ e => by cases e) (fun _ e => by cases e) (fun _ _ e => by cases e <;> decide)⟩, ⟨fe, lst _ _ e2 (fun _ _ e => by cases e) (fun _ _ e => by cases e) (fun _ _ _ e => by cases e; rfl) (fun _ e => by cases e) (fun _ e => by cases e) (fun _ _ e => by cases e <;> decide), e3⟩, e4⟩
  refine ⟨⟨?_, hS, ⟨fk, ?_⟩⟩, oT, iP, ⟨?_, h4.2⟩, ⟨c1, al _ _ _ _ _ a1, b1⟩, ⟨c2, al _ _ _ _ _ a2, b2⟩, e12, ?_, ?_⟩
  · exact lst _ _ o0 (fun _ _ e => by cases e) (fun _ _ e => by cases e) (fun _ _ _ e => by cases e) (fun _ e => by cases e) (fun _ e => by cases e) (fun _ _ e => by cases e <;> decide)
  · exact lst _ _ hk (fun _ _ e => by cases e) (fun _ _ e => by cases e) (fun _ _ _ e => by cases e; rfl) (fun _ e => by cases e) (fun _ e => by cases e) (fun _ _ e => by cases e <;> decide)
  · refine key _ _ h4.1 (fun k k1 k2 => h4s k k2) ?_ ?_ (fun _ e => by cases e) (fun _ _ e => by cases e) (fun _ e => by cases e)
    · exact fun e => by have := h4.1; rw [e, oT0] at this; cases this
    · exact fun e => by have := h4.1; rw [e, iP0] at this; cases this
  · intro i hi
    obtain ⟨fs, e⟩ := hkn i hi
    by_cases c : X (kn i)
    · rcases hX _ c with ⟨_, fs', _, e'⟩ | ⟨cc, _, e', ecc⟩ | ⟨_, e'⟩ | e'
      · exact ⟨fs', e'⟩
      · rw [e] at e'; cases e'; omega
      · rw [e] at e'; cases e'
      · rw [e] at e'; cases e'
    · have e : S (kn i) = some (kO 9 fs) := e
      refine ⟨fs, hF _ _ e ?_ ?_ ?_ c⟩
      · rintro ⟨k, k1, k2, ek⟩
        exact scn _ _ e (fun _ _ e => by cases e) (fun _ _ e => by cases e) (fun _ _ _ e => by cases e) k k1 k2 ek
      · exact fun e1 => by rw [e1, oT0] at e; cases e
      · exact fun e1 => by rw [e1, iP0] at e; cases e
  · intro j l hl
    obtain ⟨⟨e1, e2⟩, e3⟩ := hlv j l hl
    obtain ⟨c, fs, ec, hc⟩ := kLc_cl kn l
    refine ⟨⟨?_, e2⟩, e3⟩
    rw [ec] at e1 ⊢
    refine lst _ _ e1 (fun _ _ e => by cases e) (fun _ _ e => by cases e) (fun _ _ _ e => by cases e) (fun _ e => ?_) (fun _ e => ?_) (fun _ _ e => ?_) <;> (injection e with e; injection e with e; omega)
