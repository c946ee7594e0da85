/-! PURE 9: rows split in place are the class's parts -/
set_option maxRecDepth 100000
def zwn (s e : Nat) (f : Nat → Int) : Nat → Int := fun x => if s + x < e then f (s + x) else 0
theorem zdvw_sm {M : Int} {g : Nat → Int} {d s n : Nat} {f : Nat → Int} (h : n ≤ s + d) : zdvw M g d s n f = f := by
  cases n with
  | zero => rfl
  | succ n =>
    unfold zdvw
    rw [if_neg (by omega)]
theorem zdvw_sh {M : Int} {g : Nat → Int} {d s : Nat} : ∀ (n : Nat) (f : Nat → Int) (x : Nat), zdvw M g d s (s + n) f (s + x) = zdvw M g d 0 n (fun y => f (s + y)) x := by
  intro n
  induction n with
  | zero =>
    intro f x
    rw [Nat.add_zero, zdvw_sm (by omega)]
    rfl
  | succ n ih =>
    intro f x
    rw [show s + (n + 1) = (s + n) + 1 from rfl]
    unfold zdvw
    by_cases c : s + d ≤ s + n
    · rw [if_pos c, if_pos (by omega), ih]
      congr 1
      funext y
      unfold zdst
      by_cases c2 : n ≤ y + d ∧ y < n
      · rw [if_pos c2, if_pos (by omega), show s + y + d - (s + n) = y + d - n by omega]
      · rw [if_neg c2, if_neg (by omega)]
    · rw [if_neg c, if_neg (by omega)]
theorem zdvw_lo {M : Int} {g : Nat → Int} {d s q : Nat} (hq : q < s) : ∀ (n : Nat) (f : Nat → Int), zdvw M g d s n f q = f q := by
  intro n
  induction n with
  | zero => intro f; rfl
  | succ n ih =>
    intro f
    unfold zdvw
    by_cases c : s + d ≤ n
    · rw [if_pos c, ih]
      unfold zdst
      rw [if_neg (by omega)]
    · rw [if_neg c]
theorem zdvw_hi {M : Int} {g : Nat → Int} {d s q : Nat} : ∀ (n : Nat) (f : Nat → Int), n ≤ q → zdvw M g d s n f q = f q := by
  intro n
  induction n with
  | zero => intro f _; rfl
  | succ n ih =>
    intro f hq
    unfold zdvw
    by_cases c : s + d ≤ n
    · rw [if_pos c, ih _ (by omega)]
      unfold zdst
      rw [if_neg (by omega)]
    · rw [if_neg c]
theorem zdvw_z {M : Int} {g f : Nat → Int} {d n : Nat} : ∀ k : Nat, (∀ m, n ≤ m → m < n + k → f m = 0) → zred M (n + k) f → zdvw M g d 0 (n + k) f = zdvw M g d 0 n f := by
  intro k
  induction k with
  | zero => intro _ _; rfl
  | succ k ih =>
    intro hz hr
    rw [show n + (k + 1) = (n + k) + 1 from rfl]
    conv => lhs; unfold zdvw
    have e : zdst M g d (n + k) f = f := by
      funext q
      unfold zdst
      by_cases c : n + k ≤ q + d ∧ q < n + k
      · rw [if_pos c, hz (n + k) (by omega) (by omega), Int.zero_mul, Int.sub_zero]
        have := hr q (by omega)
        exact Int.emod_eq_of_lt this.1 this.2
      · rw [if_neg c]
    by_cases c : 0 + d ≤ n + k
    · rw [if_pos c, e]
      exact ih (fun m h1 h2 => hz m h1 (by omega)) (fun q hq => hr q (by omega))
    · rw [if_neg c, zdvw_sm (by omega)]
theorem zdvw_zero {M : Int} {g : Nat → Int} {d s n : Nat} : ∀ (k : Nat) (f : Nat → Int), (∀ m, n ≤ m → f m = 0) → ∀ m, n ≤ m → zdvw M g d s k f m = 0 := by
  intro k
  induction k with
  | zero => intro f h m hm; exact h m hm
  | succ k ih =>
    intro f h m hm
    unfold zdvw
    by_cases c : s + d ≤ k
    · rw [if_pos c]
      refine ih _ (fun m hm => ?_) m hm
      unfold zdst
      by_cases c2 : k ≤ m + d ∧ m < k
      · rw [if_pos c2, h m hm, h k (by omega), Int.zero_mul]
        rfl
      · rw [if_neg c2]
        exact h m hm
    · rw [if_neg c]
      exact h m hm
theorem zspl_lo {M : Int} {g : Nat → Int} {d e q : Nat} : ∀ (k s : Nat) (f : Nat → Int), q < s → zspl M g d e k s f q = f q := by
  intro k
  induction k with
  | zero => intro s f _; rfl
  | succ k ih =>
    intro s f hq
    unfold zspl
    by_cases c : s + d < e
    · rw [if_pos c, ih _ _ (by omega), zdvw_lo hq]
    · rw [if_neg c]
theorem zspl_hi {M : Int} {g : Nat → Int} {d e q : Nat} (hq : e ≤ q) : ∀ (k s : Nat) (f : Nat → Int), zspl M g d e k s f q = f q := by
  intro k
  induction k with
  | zero => intro s f; rfl
  | succ k ih =>
    intro s f
    unfold zspl
    by_cases c : s + d < e
    · rw [if_pos c, ih, zdvw_hi _ _ hq]
    · rw [if_neg c]
theorem zspl_part {M : Int} (hM : 0 < M) {g : Nat → Int} {d e : Nat} (hd : 1 ≤ d) : ∀ (k s : Nat) (f : Nat → Int), e ≤ s + d + k → e ≤ s + 9 → s ≤ e → (∀ q, s ≤ q → q < e → 0 ≤ f q ∧ f q < M) → ∀ i t : Nat, t < d → s + i * d + t < e → zspl M g d e k s f (s + i * d + t) = zpart M g d i (zwn s e f) t := by
  intro k
  induction k with
  | zero =>
    intro s f h1 h2 h3 hr i t ht hit
    cases i with
    | zero =>
      unfold zpart zqn zrem zspl
      rw [if_pos ht, Nat.zero_mul, Nat.add_zero]
      obtain ⟨n, hn⟩ : ∃ n, e = s + n := ⟨e - s, by omega⟩
      have e1 : zdvw M g d 0 9 (zwn s e f) = zdvw M g d 0 n (zwn s e f) := by
        rw [show 9 = n + (9 - n) by omega]
        refine zdvw_z _ (fun m a b => ?_) (fun q hq => ?_)
        · unfold zwn
          rw [if_neg (by omega)]
        · unfold zwn
          by_cases c : s + q < e
          · rw [if_pos c]; exact hr _ (by omega) c
          · rw [if_neg c]; omega
      rw [e1, zdvw_sm (by omega)]
      unfold zwn
      rw [if_pos (by omega)]
    | succ i =>
      rw [Nat.succ_mul] at hit
      omega
  | succ k ih =>
    intro s f h1 h2 h3 hr i t ht hit
    obtain ⟨n, hn⟩ : ∃ n, e = s + n := ⟨e - s, by omega⟩
    have hred : zred M 9 (zwn s e f) := by
      intro q hq
      unfold zwn
      by_cases c : s + q < e
      · rw [if_pos c]; exact hr _ (by omega) c
      · rw [if_neg c]; omega
    have e1 : zdvw M g d 0 9 (zwn s e f) = zdvw M g d 0 n (zwn s e f) := by
      have e9 : n + (9 - n) = 9 := by omega
      have := zdvw_z (M := M) (g := g) (f := zwn s e f) (d := d) (n := n) (9 - n) (fun m a b => by
        unfold zwn
        rw [if_neg (by omega)]) (by rw [e9]; exact hred)
      rw [e9] at this
      exact this
    have e2 : ∀ x, x < n → zdvw M g d 0 n (zwn s e f) x = zdvw M g d s e f (s + x) := by
      intro x hx
      rw [hn, zdvw_sh]
      refine zdvw_congr (N := n) n _ _ (Nat.le_refl _) (fun q hq => ?_) x hx
      unfold zwn
      rw [if_pos (by omega)]
    unfold zspl
    by_cases c : s + d < e
    · rw [if_pos c]
      cases i with
      | zero =>
        rw [Nat.zero_mul, Nat.add_zero, zspl_lo _ _ _ (by omega)]
        unfold zpart zqn zrem
        rw [if_pos ht, e1, e2 t (by omega)]
      | succ i =>
        rw [Nat.succ_mul] at hit ⊢
        rw [show s + (i * d + d) + t = (s + d) + i * d + t by omega]
        rw [ih (s + d) _ (by omega) (by omega) (by omega) (fun q a b => by
          by_cases c3 : q < s
          · omega
          · obtain ⟨x, hx⟩ : ∃ x, q = s + x := ⟨q - s, by omega⟩
            rw [hx, ← e2 x (by omega)]
            rw [← e1]
            exact zred_zdvw hM 9 _ hred x (by omega)) i t ht (by omega)]
        unfold zpart
        rw [zqn]
        congr 3
        funext x
        unfold zquo
        by_cases c4 : x + d < 9
        · rw [if_pos c4, e1]
          by_cases c5 : x + d < n
          · rw [e2 _ c5]
            unfold zwn
            rw [if_pos (by omega), show s + d + x = s + (x + d) by omega]
          · rw [zdvw_hi _ _ (by omega)]
            unfold zwn
            rw [if_neg (by omega), if_neg (by omega)]
        · rw [if_neg c4]
          unfold zwn
          rw [if_neg (by omega)]
    · rw [if_neg c]
      cases i with
      | zero =>
        unfold zpart zqn zrem
        rw [if_pos ht, e1, e2 _ (by omega), zdvw_sm (by omega), Nat.zero_mul, Nat.add_zero]
      | succ i =>
        rw [Nat.succ_mul] at hit
        omega
theorem zpart_hi {M : Int} {g f : Nat → Int} {d i t : Nat} (h : d ≤ t) : zpart M g d i f t = 0 := by
  unfold zpart zrem
  rw [if_neg (by omega)]
theorem zqn_top {M : Int} {g f : Nat → Int} {d : Nat} (hf : ∀ m, 9 ≤ m → f m = 0) : ∀ (i m : Nat), 9 ≤ m + i * d → zqn M g d i f m = 0 := by
  intro i
  induction i with
  | zero => intro m hm; exact hf m (by omega)
  | succ i ih =>
    intro m hm
    rw [zqn_s]
    unfold zquo
    by_cases c : m + d < 9
    · rw [if_pos c]
      refine zdvw_zero (n := 9 - i * d) 9 _ (fun q hq => ih q (by omega)) _ ?_
      rw [Nat.succ_mul] at hm
      omega
    · rw [if_neg c]
theorem zpart_top {M : Int} {g f : Nat → Int} {d i t : Nat} (hf : ∀ m, 9 ≤ m → f m = 0) (h : 9 ≤ i * d + t) : zpart M g d i f t = 0 := by
  unfold zpart zrem
  by_cases c : t < d
  · rw [if_pos c]
    exact zdvw_zero (n := 9 - i * d) 9 _ (fun q hq => zqn_top hf i q (by omega)) _ (by omega)
  · rw [if_neg c]
theorem zred_zqn {M : Int} (hM : 0 < M) {g : Nat → Int} {d : Nat} : ∀ (i : Nat) (f : Nat → Int), zred M 9 f → zred M 9 (zqn M g d i f) := by
  intro i
  induction i with
  | zero => intro f h; exact h
  | succ i ih =>
    intro f h
    rw [zqn]
    refine ih _ (fun q hq => ?_)
    unfold zquo
    by_cases c : q + d < 9
    · rw [if_pos c]
      exact zred_zdvw hM 9 _ h _ c
    · rw [if_neg c]
      omega
theorem zred_zpart {M : Int} (hM : 0 < M) {g f : Nat → Int} {d i : Nat} (h : zred M 9 f) : zred M 9 (zpart M g d i f) := by
  intro q hq
  unfold zpart zrem
  by_cases c : q < d
  · rw [if_pos c]
    exact zred_zdvw hM 9 _ (zred_zqn hM i f h) q hq
  · rw [if_neg c]
    omega
