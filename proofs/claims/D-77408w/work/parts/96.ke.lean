/-! CLASS 31: keys are monic -/
set_option maxRecDepth 100000
def zdeg (f : Nat → Int) (a : Nat) : Prop := f a = 1 ∧ ∀ k, a < k → k < 9 → f k = 0
theorem zdeg_N {f : Nat → Int} {a : Nat} (h : zdeg f a) (ha : a < 9) : degN f 9 = a := by
  have hl := degN_lt f 9
  by_cases c : degN f 9 = (a : Int)
  · exact c
  · by_cases c2 : degN f 9 < (a : Int)
    · have := degN_hi f 9 a c2 ha
      rw [h.1] at this
      omega
    · obtain ⟨m, hm⟩ : ∃ m : Nat, degN f 9 = m := ⟨(degN f 9).toNat, by omega⟩
      have := degN_at f 9 m hm
      exact absurd (h.2 m (by omega) (by omega)) this
theorem zpm_hi {M : Int} {f g : Nat → Int} {a b : Nat} (hf : ∀ k, a < k → k < 9 → f k = 0) (hg : ∀ k, b < k → k < 9 → g k = 0) {k : Nat} (h1 : a + b < k) (h2 : k < 9) : zpm M f g k = 0 := by
  have key : ∀ n, n ≤ k + 1 → zcv M f g k n = 0 := by
    intro n
    induction n with
    | zero => intro _; rfl
    | succ n ih =>
      intro hn
      show (zcv M f g k n + f n * g (k - n)) % M = 0
      rw [ih (by omega)]
      by_cases c : a < n
      · rw [hf n c (by omega), Int.zero_mul, Int.add_zero, Int.zero_emod]
      · rw [hg (k - n) (by omega) (by omega), Int.mul_zero, Int.add_zero, Int.zero_emod]
  exact key (k + 1) (Nat.le_refl _)
theorem zpm_deg {M : Int} (hM : 1 < M) {f g : Nat → Int} {a b : Nat} (hf : zdeg f a) (hg : zdeg g b) (hab : a + b ≤ 8) : zdeg (zpm M f g) (a + b) := by
  refine ⟨?_, fun k h1 h2 => zpm_hi hf.2 hg.2 h1 h2⟩
  have key : ∀ n, n ≤ a + b + 1 → zcv M f g (a + b) n = if n ≤ a then 0 else 1 := by
    intro n
    induction n with
    | zero => intro _; rfl
    | succ n ih =>
      intro hn
      show (zcv M f g (a + b) n + f n * g (a + b - n)) % M = _
      rw [ih (by omega)]
      by_cases c : n < a
      · rw [if_pos (by omega), if_pos (by omega), hg.2 (a + b - n) (by omega) (by omega), Int.mul_zero, Int.add_zero, Int.zero_emod]
      · by_cases c2 : n = a
        · rw [if_pos (by omega), if_neg (by omega), c2, hf.1, show a + b - a = b from by omega, hg.1]
          exact Int.emod_eq_of_lt (by omega) (by omega)
        · rw [if_neg (by omega), if_neg (by omega), hf.2 n (by omega) (by omega), Int.zero_mul]
          exact Int.emod_eq_of_lt (by omega) (by omega)
  have := key (a + b + 1) (Nat.le_refl _)
  rw [if_neg (by omega)] at this
  exact this
theorem zit_deg {M : Int} (hM : 1 < M) {g : Nat → Int} {b : Nat} (hg : zdeg g b) : ∀ (n : Nat) (f : Nat → Int) (a : Nat), zdeg f a → a + n * b ≤ 8 → zdeg (zit (fun f => zpm M f g) n f) (a + n * b) := by
  intro n
  induction n with
  | zero =>
    intro f a hf _
    rw [Nat.zero_mul, Nat.add_zero]
    exact hf
  | succ n ih =>
    intro f a hf hab
    rw [Nat.add_mul, Nat.one_mul] at hab ⊢
    unfold zit
    have := ih (zpm M f g) (a + b) (zpm_deg hM hf hg (by omega)) (by omega)
    rw [show a + (n * b + b) = a + b + n * b from by omega]
    exact this
theorem zit_hi {M : Int} {g : Nat → Int} {b : Nat} (hg : ∀ k, b < k → k < 9 → g k = 0) : ∀ (n : Nat) (f : Nat → Int) (a : Nat), (∀ k, a < k → k < 9 → f k = 0) → ∀ k, a + n * b < k → k < 9 → zit (fun f => zpm M f g) n f k = 0 := by
  intro n
  induction n with
  | zero =>
    intro f a hf k h1 h2
    exact hf k (by omega) h2
  | succ n ih =>
    intro f a hf k h1 h2
    rw [Nat.add_mul, Nat.one_mul] at h1
    unfold zit
    exact ih (zpm M f g) (a + b) (fun x x1 x2 => zpm_hi hf hg x1 x2) k (by omega) h2
theorem zls_hi {M p : Int} {pa : zP} (hv : zPv M pa) (hkm : zKm pa) {sm : Nat → Int} (hsm : ∀ k, 1 ≤ k → k < zpL pa → 0 ≤ sm k ∧ sm k < zpR pa k) : ∀ n, n < zpL pa → ∀ k, zpD pa (n + 1) ≤ k → k < 9 → zls M p pa sm n k = 0 := by
  intro n
  induction n with
  | zero =>
    intro _ k h1 _
    have : zpD pa 1 = 1 := zD_1 _
    rw [Nat.zero_add, this] at h1
    unfold zls
    rw [if_neg (by omega)]
  | succ n ih =>
    intro hn k h1 h2
    have hD := hv.D (k := n + 1) (by omega) (by omega)
    have hDs := hv.Ds (k := n + 1) (by omega)
    have hs := hsm (n + 1) (by omega) hn
    have hK := hkm (n + 1) (by omega) (by omega)
    unfold zls
    refine zit_hi (g := zpK pa (n + 1)) (b := zpD pa (n + 1)) (fun x x1 x2 => degN_hi _ 9 x (by rw [hK.1]; omega) x2) (sm (n + 1)).toNat _ (zpD pa (n + 1) - 1) (fun x x1 x2 => ih (by omega) x (by omega) x2) k ?_ h2
    have : ((sm (n + 1)).toNat + 1) * zpD pa (n + 1) ≤ zpR pa (n + 1) * zpD pa (n + 1) := Nat.mul_le_mul_right _ (by omega)
    rw [Nat.add_mul, Nat.one_mul, Nat.mul_comm (zpR pa (n + 1)), ← hDs] at this
    omega
theorem znk_deg {M p : Int} (hM : 1 < M) {pa : zP} (hv : zPv M pa) (hkm : zKm pa) {sm : Nat → Int} (hsm : ∀ k, 1 ≤ k → k < zpL pa → 0 ≤ sm k ∧ sm k < zpR pa k) {ram : Nat} (hr1 : 1 ≤ ram) (hr : ram * zpD pa (zpL pa) ≤ 8) (root : Int) : zdeg (znk M p pa ram sm root) (ram * zpD pa (zpL pa)) := by
  have hL := hv.1
  have hD := hv.D hL (Nat.le_refl _)
  have hK := hkm (zpL pa) hL (Nat.le_refl _)
  have hone : zdeg (zone M 1) 0 := by
    refine ⟨?_, fun k h1 _ => ?_⟩
    · unfold zone
      rw [if_pos rfl, Int.emod_eq_of_lt (by omega) hM]
    · unfold zone
      rw [if_neg (by omega)]
  have hkey : zdeg (zpK pa (zpL pa)) (zpD pa (zpL pa)) := ⟨hK.2, fun x x1 x2 => degN_hi _ 9 x (by rw [hK.1]; omega) x2⟩
  have hpow := zit_deg hM hkey ram (zone M 1) 0 hone (by omega)
  rw [Nat.zero_add] at hpow
  have hlv : ∀ k, zpD pa (zpL pa) ≤ k → k < 9 → zlv M p pa sm root (zpL pa - 1) k = 0 := by
    intro k h1 h2
    rw [zlv_ls pa sm root (zpL pa - 1) k h2, zls_hi hv hkm hsm (zpL pa - 1) (by omega) k (by rw [show zpL pa - 1 + 1 = zpL pa from by omega]; exact h1) h2, Int.mul_zero, Int.zero_emod]
  have hle : 1 * zpD pa (zpL pa) ≤ ram * zpD pa (zpL pa) := Nat.mul_le_mul_right _ hr1
  refine ⟨?_, fun k h1 h2 => ?_⟩
  · unfold znk
    rw [hpow.1, hlv _ (by omega) (by omega)]
    exact Int.emod_eq_of_lt (by omega) (by omega)
  · unfold znk
    rw [hpow.2 k h1 h2, hlv _ (by omega) h2]
    rfl
theorem zKm_ext {M p : Int} (hM : 1 < M) {pa : zP} (hv : zPv M pa) (hkm : zKm pa) {sm : Nat → Int} (hsm : ∀ k, 1 ≤ k → k < zpL pa → 0 ≤ sm k ∧ sm k < zpR pa k) {ram : Nat} (hr1 : 1 ≤ ram) (hr : ram * zpD pa (zpL pa) ≤ 8) (root slope : Int) (n : Nat) : zKm (zext pa n (znk M p pa ram sm root) ram slope root sm) := by
  intro k h1 h2
  have hL : zpL (zext pa n (znk M p pa ram sm root) ram slope root sm) = zpL pa + 1 := rfl
  rw [hL] at h2
  by_cases c : k = zpL pa + 1
  · have e1 : zpK (zext pa n (znk M p pa ram sm root) ram slope root sm) k = znk M p pa ram sm root := by
      show (if k = zpL pa + 1 then _ else _) = _
      rw [if_pos c]
    rw [e1, c, zext_DL pa n _ ram slope root sm hv.1, Nat.mul_comm]
    have := znk_deg hM (p := p) hv hkm hsm hr1 hr root
    exact ⟨zdeg_N this (by omega), this.1⟩
  · have e1 : zpK (zext pa n (znk M p pa ram sm root) ram slope root sm) k = zpK pa k := by
      show (if k = zpL pa + 1 then _ else _) = _
      rw [if_neg c]
    rw [e1, zext_D pa n _ ram slope root sm k (by omega)]
    exact hkm k h1 (by omega)
