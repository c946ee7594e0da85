/-! PURE 3: division of rows (the model's in place, the class's by quotients), head rows -/
set_option maxRecDepth 100000
def zdst (M : Int) (g : Nat → Int) (d j : Nat) (f : Nat → Int) : Nat → Int :=
  fun q => if j ≤ q + d ∧ q < j then (f q - f j * g (q + d - j)) % M else f q
/-- a window's pass: from its last place down to s + d -/
def zdvw (M : Int) (g : Nat → Int) (d s : Nat) : Nat → (Nat → Int) → Nat → Int
  | 0, f => f
  | n + 1, f => if s + d ≤ n then zdvw M g d s n (zdst M g d n f) else f
def zspl (M : Int) (g : Nat → Int) (d e : Nat) : Nat → Nat → (Nat → Int) → Nat → Int
  | 0, _, f => f
  | k + 1, s, f => if s + d < e then zspl M g d e k (s + d) (zdvw M g d s e f) else f
/-- entries are reduced -/
def zred (M : Int) (n : Nat) (f : Nat → Int) : Prop := ∀ q, q < n → 0 ≤ f q ∧ f q < M
theorem zred_zdst {M : Int} (hM : 0 < M) {n : Nat} {g f : Nat → Int} {d j : Nat} (h : zred M n f) : zred M n (zdst M g d j f) := by
  intro q hq
  unfold zdst
  by_cases c : j ≤ q + d ∧ q < j
  · rw [if_pos c]
    exact ⟨Int.emod_nonneg _ (by omega), Int.emod_lt_of_pos _ hM⟩
  · rw [if_neg c]
    exact h q hq
theorem zred_zdvw {M : Int} (hM : 0 < M) {N : Nat} {g : Nat → Int} {d s : Nat} : ∀ (n : Nat) (f : Nat → Int), zred M N f → zred M N (zdvw M g d s n f) := by
  intro n
  induction n with
  | zero => intro f h; exact h
  | succ n ih =>
    intro f h
    unfold zdvw
    by_cases c : s + d ≤ n
    · rw [if_pos c]
      exact ih _ (zred_zdst hM h)
    · rw [if_neg c]
      exact h
theorem zred_zspl {M : Int} (hM : 0 < M) {N : Nat} {g : Nat → Int} {d e : Nat} : ∀ (k s : Nat) (f : Nat → Int), zred M N f → zred M N (zspl M g d e k s f) := by
  intro k
  induction k with
  | zero => intro s f h; exact h
  | succ k ih =>
    intro s f h
    unfold zspl
    by_cases c : s + d < e
    · rw [if_pos c]
      exact ih _ _ (zred_zdvw hM _ _ h)
    · rw [if_neg c]
      exact h
/-- one place of a pass, written from below: t places are written -/
def zdsp (M : Int) (g : Nat → Int) (d j t : Nat) (f : Nat → Int) : Nat → Int :=
  fun q => if j ≤ q + d ∧ q + d < j + t then (f q - f j * g (q + d - j)) % M else f q
theorem zdsp_0 (M : Int) (g : Nat → Int) (d j : Nat) (f : Nat → Int) : zdsp M g d j 0 f = f := by
  funext q
  unfold zdsp
  rw [if_neg (by omega)]
theorem zdsp_d (M : Int) (g : Nat → Int) (d j : Nat) (f : Nat → Int) : zdsp M g d j d f = zdst M g d j f := by
  funext q
  unfold zdsp zdst
  by_cases c : j ≤ q + d ∧ q < j
  · rw [if_pos c, if_pos (by omega)]
  · rw [if_neg c, if_neg (by omega)]
theorem zdsp_s (M : Int) (g : Nat → Int) (d j t : Nat) (f : Nat → Int) (hd : d ≤ j) (ht : t < d) : zup (zdsp M g d j t f) (j - d + t) ((zdsp M g d j t f (j - d + t) - zdsp M g d j t f j * g t) % M) = zdsp M g d j (t + 1) f := by
  funext q
  unfold zup
  have e1 : zdsp M g d j t f j = f j := by
    unfold zdsp
    rw [if_neg (by omega)]
  have e2 : zdsp M g d j t f (j - d + t) = f (j - d + t) := by
    unfold zdsp
    rw [if_neg (by omega)]
  rw [e1, e2]
  by_cases c : q = j - d + t
  · subst c
    rw [if_pos rfl]
    unfold zdsp
    rw [if_pos (by omega), show j - d + t + d - j = t from by omega]
  · rw [if_neg c]
    unfold zdsp
    by_cases c2 : j ≤ q + d ∧ q + d < j + t
    · rw [if_pos c2, if_pos (by omega)]
    · rw [if_neg c2, if_neg (by omega)]
theorem zred_zdsp {M : Int} (hM : 0 < M) {n : Nat} {g f : Nat → Int} {d j t : Nat} (h : zred M n f) : zred M n (zdsp M g d j t f) := by
  intro q hq
  unfold zdsp
  by_cases c : j ≤ q + d ∧ q + d < j + t
  · rw [if_pos c]
    exact ⟨Int.emod_nonneg _ (by omega), Int.emod_lt_of_pos _ hM⟩
  · rw [if_neg c]
    exact h q hq
/-! the class's way: what remains, the quotient -/
def zrem (d : Nat) (h : Nat → Int) : Nat → Int := fun q => if q < d then h q else 0
def zquo (d : Nat) (h : Nat → Int) : Nat → Int := fun q => if q + d < 9 then h (q + d) else 0
def zqn (M : Int) (g : Nat → Int) (d : Nat) : Nat → (Nat → Int) → Nat → Int
  | 0, f => f
  | i + 1, f => zqn M g d i (zquo d (zdvw M g d 0 9 f))
def zpart (M : Int) (g : Nat → Int) (d i : Nat) (f : Nat → Int) : Nat → Int := zrem d (zdvw M g d 0 9 (zqn M g d i f))
theorem zqn_s (M : Int) (g : Nat → Int) (d : Nat) : ∀ (i : Nat) (f : Nat → Int), zqn M g d (i + 1) f = zquo d (zdvw M g d 0 9 (zqn M g d i f)) := by
  intro i
  induction i with
  | zero => intro f; rfl
  | succ i ih =>
    intro f
    rw [zqn, ih, zqn]
