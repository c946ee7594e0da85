/-! PURE 50: the model's text -/
set_option maxRecDepth 100000
theorem zterm_bd (tp : Nat → Int) (n a : Nat) (ha : a ≤ n) : 0 ≤ (zterm tp n a).2.1 ∧ (zterm tp n a).2.1 ≤ 10000 := by
  have b := znr_ok tp n 4 0 a 0 (by omega) (by omega) ha
  have b2 := b.2.1
  rw [show ((0 : Int) + 1) * 10 ^ 4 = 10000 by decide] at b2
  unfold zterm
  by_cases c : 48 ≤ zhr0 tp n a ∧ zhr0 tp n a ≤ 57
  · rw [if_pos c]
    by_cases c2 : zhr0 tp n (znr tp n 4 0 a).2 = 42
    · rw [if_pos c2]; exact ⟨b.1, b2⟩
    · rw [if_neg c2]; exact ⟨b.1, b2⟩
  · rw [if_neg c]
    exact ⟨by show (0 : Int) ≤ 1; omega, by show (1 : Int) ≤ 10000; omega⟩
theorem zadd_bd {F : Nat → Int} {B v sg : Int} {r : Nat} (h : ∀ q, q < 9 → -B ≤ F q ∧ F q ≤ B) (hr : r < 9) (hv : 0 ≤ v ∧ v ≤ 10000) (hs : sg = 1 ∨ sg = -1) : ∀ q, q < 9 → -(B + 10000) ≤ zup F r (F r + sg * v) q ∧ zup F r (F r + sg * v) q ≤ B + 10000 := by
  intro q hq
  have a := h q hq
  have b := h r hr
  unfold zup
  by_cases c : q = r
  · rw [if_pos c]
    rcases hs with e | e <;> rw [e] <;> omega
  · rw [if_neg c]
    omega
