/-! CLASS 18: heads: looks -/
set_option maxRecDepth 100000
theorem zD_div {M : Int} {pa : zP} (hv : zPv M pa) {i l : Nat} (hi : 1 ≤ i) (hil : i ≤ l) (hl : l ≤ zpL pa) : ∃ c, zpD pa l = c * zpD pa i ∧ 1 ≤ c := by
  obtain ⟨c, e1, e2⟩ := zD_dvd (R := zpR pa) hi (l - i)
  rw [show i + (l - i) = l by omega] at e1 e2
  exact ⟨c, e1, e2 (fun j a b => hv.2.2.1 j a (by omega))⟩
theorem zdg_lo {M : Int} {pa : zP} (hv : zPv M pa) {i l : Nat} (hi : 1 ≤ i) (hil : i < l) (hl : l ≤ zpL pa) (n : Nat) : zdg pa (n * zpD pa l) i = 0 := by
  obtain ⟨c, e, _⟩ := zD_div hv (i := i + 1) (l := l) (by omega) (by omega) hl
  have hD := (hv.D hi (by omega)).1
  rw [e, hv.Ds hi]
  unfold zdg
  rw [show n * (c * (zpD pa i * zpR pa i)) = (n * c * zpR pa i) * zpD pa i from by rw [Nat.mul_comm (zpD pa i), ← Nat.mul_assoc, ← Nat.mul_assoc], Nat.mul_div_cancel _ (by omega), Nat.mul_mod_left]
theorem zdg_st {M : Int} {pa : zP} (hv : zPv M pa) {l : Nat} (h1 : 1 ≤ l) (hl : l < zpL pa) (b k : Nat) (hk : k < zpR pa l) {i : Nat} (hi : 1 ≤ i) (hiL : i < zpL pa) : zdg pa ((b * zpR pa l + k) * zpD pa l) i = if i = l then k else zdg pa (b * zpD pa (l + 1)) i := by
  have hD := (hv.D h1 (by omega)).1
  by_cases c : i = l
  · subst c
    rw [if_pos rfl]
    unfold zdg
    rw [Nat.mul_div_cancel _ (by omega), Nat.add_comm, Nat.add_mul_mod_self_right, Nat.mod_eq_of_lt hk]
  · rw [if_neg c]
    by_cases c2 : i < l
    · rw [zdg_lo hv hi c2 (by omega), zdg_lo hv hi (l := l + 1) (by omega) (by omega)]
    · obtain ⟨e, he, _⟩ := zD_div hv (i := l + 1) (l := i) (by omega) (by omega) (by omega)
      have hD2 := (hv.D (k := l + 1) (by omega) (by omega)).1
      unfold zdg
      rw [he, Nat.mul_comm e, ← Nat.div_div_eq_div_mul, ← Nat.div_div_eq_div_mul, Nat.mul_div_cancel _ (by omega)]
      have : (b * zpR pa l + k) * zpD pa l / zpD pa (l + 1) = b := by
        rw [hv.Ds h1]
        have hkD : k * zpD pa l < zpD pa l * zpR pa l := by
          rw [Nat.mul_comm (zpD pa l)]
          exact Nat.mul_lt_mul_of_pos_right hk (by omega)
        rw [Nat.add_mul, show b * zpR pa l * zpD pa l = b * (zpD pa l * zpR pa l) from by rw [Nat.mul_assoc, Nat.mul_comm (zpR pa l)]]
        rw [Nat.mul_comm b, Nat.mul_add_div (by omega), Nat.div_eq_of_lt hkD, Nat.add_zero]
      rw [this]
theorem zdgs_st {M : Int} {pa : zP} (hv : zPv M pa) {l : Nat} (h1 : 1 ≤ l) (hl : l < zpL pa) (b k k' : Nat) (hk : k < zpR pa l) (hk' : k' < zpR pa l) : zup (zdgs pa ((b * zpR pa l + k') * zpD pa l)) l k = zdgs pa ((b * zpR pa l + k) * zpD pa l) := by
  funext i
  unfold zup zdgs
  by_cases c : i = l
  · subst c
    rw [if_pos rfl, if_neg (by omega), if_pos hl, zdg_st hv h1 hl b k hk h1 hl, if_pos rfl]
  · rw [if_neg c]
    by_cases c0 : i = 0
    · rw [if_pos c0, if_pos c0]
    · rw [if_neg c0, if_neg c0]
      by_cases c1 : i < zpL pa
      · rw [if_pos c1, if_pos c1, zdg_st hv h1 hl b k hk (by omega) c1, zdg_st hv h1 hl b k' hk' (by omega) c1, if_neg c, if_neg c]
      · rw [if_neg c1, if_neg c1]
theorem zhs_st {M : Int} {pa : zP} (hv : zPv M pa) {l : Nat} (h1 : 1 ≤ l) (hl : l < zpL pa) (b k : Nat) (hk : k < zpR pa l) : ∀ n, n < zpL pa → zhs pa ((b * zpR pa l + k) * zpD pa l) n = zhs pa (b * zpD pa (l + 1)) n + if l ≤ n then (k : Int) * zpS pa l * ((zpD pa (zpL pa) / zpD pa (l + 1) : Nat) : Int) else 0 := by
  intro n
  induction n with
  | zero =>
    intro _
    rw [if_neg (by omega)]
    rfl
  | succ n ih =>
    intro hn
    unfold zhs
    rw [ih (by omega), zdg_st hv h1 hl b k hk (by omega) hn]
    by_cases c : n + 1 = l
    · rw [if_neg (by omega), if_pos c, if_pos (by omega), c]
      have : zdg pa (b * zpD pa (l + 1)) l = 0 := zdg_lo hv h1 (by omega) (by omega) b
      rw [this, show n + 2 = l + 1 from by omega]
      simp
    · rw [if_neg c]
      by_cases c2 : l ≤ n
      · rw [if_pos c2, if_pos (by omega)]
        omega
      · rw [if_neg c2, if_neg (by omega)]
        omega
/-- keys are monic, of degree what is ramified -/
def zKm (pa : zP) : Prop := ∀ k, 1 ≤ k → k ≤ zpL pa → degN (zpK pa k) 9 = zpD pa k ∧ zpK pa k (zpD pa k) = 1
/-- what looks may change: rooms up to a level, the tree's head, the powers, what came after S0 -/
def kMl (A : Nat → Nat) (T P : Nat) (S0 : hH) (l : Nat) (q : Nat) : Prop := (q = A 1 ∨ q = A 2 ∨ ∃ r i, 1 ≤ r ∧ r ≤ l ∧ i < 9 ∧ q = A (14 + 9 * r + i)) ∨ q = T ∨ q = P ∨ S0 q = none
theorem kMl.mono {A : Nat → Nat} {T P : Nat} {S0 : hH} {l l' : Nat} (h : l ≤ l') {q : Nat} (hq : kMl A T P S0 l q) : kMl A T P S0 l' q := by
  rcases hq with (h1 | h1 | ⟨r, i, h1, h2, h3, h4⟩) | h1
  · exact Or.inl (Or.inl h1)
  · exact Or.inl (Or.inr (Or.inl h1))
  · exact Or.inl (Or.inr (Or.inr ⟨r, i, h1, by omega, h3, h4⟩))
  · exact Or.inr h1
theorem kScr.ex {A : Nat → Nat} {S : hH} (hs : kScr A S) (k : Nat) (h1 : 1 ≤ k) (h2 : k < 77) : ∃ y, S (A k) = some y := by
  by_cases c1 : (1 ≤ k ∧ k ≤ 2) ∨ (14 ≤ k ∧ k < 77)
  · obtain ⟨g, e⟩ := hs.j k c1; exact ⟨_, e⟩
  · by_cases c2 : k ≤ 5
    · obtain ⟨g, e⟩ := hs.2.1 k (by omega) c2; exact ⟨_, e⟩
    · by_cases c3 : k = 6
      · obtain ⟨f, e, _⟩ := hs.2.2.1
        rw [c3]
        exact ⟨_, e⟩
      · obtain ⟨f, e, _⟩ := hs.2.2.2.1 (k - 7) (by omega)
        rw [show 7 + (k - 7) = k from by omega] at e
        exact ⟨_, e⟩
theorem kScr.keep {A : Nat → Nat} {S S1 : hH} (hS : kScr A S) (hk : ∀ k, 1 ≤ k → k < 77 → ∀ y, S (A k) = some y → S1 (A k) = some y) : kScr A S1 := by
  refine ⟨fun k h1 h2 => ?_, fun k h1 h2 => ?_, ?_, fun i hi => ?_, fun k h1 h2 => ?_⟩
  · obtain ⟨g, e⟩ := hS.1 k h1 h2
    exact ⟨g, hk k h1 (by omega) _ e⟩
  · obtain ⟨g, e⟩ := hS.2.1 k h1 h2
    exact ⟨g, hk k (by omega) (by omega) _ e⟩
  · obtain ⟨f, e, h⟩ := hS.2.2.1
    exact ⟨f, hk 6 (by omega) (by omega) _ e, h⟩
  · obtain ⟨f, e, h⟩ := hS.2.2.2.1 i hi
    exact ⟨f, hk (7 + i) (by omega) (by omega) _ e, h⟩
  · obtain ⟨g, e⟩ := hS.2.2.2.2 k h1 h2
    exact ⟨g, hk k (by omega) h2 _ e⟩
theorem kScr.up {A : Nat → Nat} {S : hH} (hS : kScr A S) {x : Nat} (y : hE_) (hx : ∀ k, k < 90 → A k ≠ x) : kScr A (hup S x y) :=
  hS.keep (fun k _ h2 z hz => by rw [hup_ne (hx k (by omega))]; exact hz)
theorem kBest.up {S0 S : hH} {M p : Int} {pa : zP} {a : Nat → Int} {hd : Option Nat} {hv : Int} {B : Int × Int} (h : kBest S0 S M p pa a hd hv B) {x : Nat} (hx : ∃ y, S0 x = some y) (y : hE_) : kBest S0 (hup S x y) M p pa a hd hv B := by
  have key : ∀ q, S0 q = none → q ≠ x := by
    intro q hq e
    obtain ⟨z, hz⟩ := hx
    rw [e, hz] at hq
    cases hq
  rcases h with h | ⟨h1, h2, h3, h, t, e1, e2, e3, e4, e5⟩
  · exact Or.inl h
  · exact Or.inr ⟨h1, h2, h3, h, t, e1, e2, e3, by rw [hup_ne (key h e2)]; exact e4, by rw [hup_ne (key t e3)]; exact e5⟩
