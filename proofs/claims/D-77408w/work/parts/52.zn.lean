/-! PURE 23: what holds of factors and residues -/
set_option maxRecDepth 100000
theorem zvl_nz {p : Int} (hp : 2 ≤ p) : ∀ (n : Nat) (v : Int), 0 < v → v < 2 ^ n → v / p ^ zvl p n v % p ≠ 0 := by
  intro n
  induction n with
  | zero => intro v h1 h2; rw [Int.pow_zero] at h2; omega
  | succ n ih =>
    intro v h1 h2
    unfold zvl
    by_cases c : v % p = 0
    · rw [if_pos c]
      have hd : v = p * (v / p) := by
        have := Int.mul_ediv_add_emod v p
        omega
      have hq0 : 0 ≤ v / p := Int.ediv_nonneg (by omega) (by omega)
      have hq1 : 0 < v / p := by
        rcases Int.lt_or_eq_of_le hq0 with q | q
        · exact q
        · rw [← q, Int.mul_zero] at hd
          omega
      have hq2 : 2 * (v / p) ≤ v := by
        have := Int.mul_le_mul_of_nonneg_right hp hq0
        omega
      rw [Int.pow_succ] at h2
      have e := ih (v / p) hq1 (by omega)
      rw [Int.pow_succ, Int.mul_comm, ← Int.ediv_ediv_of_nonneg (by omega)]
      exact e
    · rw [if_neg c, Int.pow_zero, Int.ediv_one]
      exact c
def zpr (p : Int) : Prop := p = 2 ∨ p = 3 ∨ p = 5 ∨ p = 7
theorem zpr_mul {p a b : Int} (hp : zpr p) (h1 : 0 < a) (h2 : a < p) (h3 : 0 < b) (h4 : b < p) : 0 < a * b % p := by
  have ha : a = 1 ∨ a = 2 ∨ a = 3 ∨ a = 4 ∨ a = 5 ∨ a = 6 := by rcases hp with h | h | h | h <;> omega
  have hb : b = 1 ∨ b = 2 ∨ b = 3 ∨ b = 4 ∨ b = 5 ∨ b = 6 := by rcases hp with h | h | h | h <;> omega
  rcases hp with rfl | rfl | rfl | rfl <;> rcases ha with rfl | rfl | rfl | rfl | rfl | rfl <;> rcases hb with rfl | rfl | rfl | rfl | rfl | rfl <;> first | omega | decide
theorem zt1_nz {pa : zP} {p : Int} (hp : zpr p) {k : Nat} (hO : 0 < zpO pa k ∧ zpO pa k < p) : ∀ (n : Nat) (μ : Nat → Int) (r : Int), 0 < r → r < p → 0 < (zt1 pa p k n μ r).2 ∧ (zt1 pa p k n μ r).2 < p := by
  have hp0 : 0 < p := by rcases hp with h | h | h | h <;> omega
  intro n
  induction n with
  | zero => intro μ r h1 h2; exact ⟨h1, h2⟩
  | succ n ih =>
    intro μ r h1 h2
    unfold zt1
    by_cases c : (zpR pa k : Int) ≤ μ k
    · rw [if_pos c]
      exact ih _ _ (zpr_mul hp h1 h2 hO.1 hO.2) (Int.emod_lt_of_pos _ hp0)
    · rw [if_neg c]
      exact ⟨h1, h2⟩
theorem zt2_nz {pa : zP} {p : Int} (hp : zpr p) : ∀ (k : Nat), (∀ j, 1 ≤ j → j ≤ k → 0 < zpO pa j ∧ zpO pa j < p) → ∀ (μ : Nat → Int) (r : Int), 0 < r → r < p → 0 < (zt2 pa p k μ r).2 ∧ (zt2 pa p k μ r).2 < p := by
  intro k
  induction k with
  | zero => intro _ μ r h1 h2; exact ⟨h1, h2⟩
  | succ k ih =>
    intro hO μ r h1 h2
    unfold zt2
    have e := zt1_nz hp (hO (k + 1) (by omega) (Nat.le_refl _)) (μ (k + 1)).toNat μ r h1 h2
    exact ih (fun j a b => hO j a (by omega)) _ _ e.1 e.2
theorem zhr_nz {M p : Int} (hp : zpr p) (hM : 0 < M) (hM2 : M < 536870912) {pa : zP} (hv : zPv M pa) {a : Nat → Int} (ha : zred M 9 a) (h : 0 ≤ (zhd M p pa a).2) : 0 < zhr M p pa a ∧ zhr M p pa a < p := by
  have hp2 : 2 ≤ p := by rcases hp with h | h | h | h <;> omega
  have nz := zbs_nz (M := M) (p := p) (pa := pa) (a := a) (zpD pa (zpL pa)) h
  have cr := zcf_red (pa := pa) hM ha (zhd M p pa a).2.toNat
  have e := zvl_nz hp2 30 (zcf M pa a (zhd M p pa a).2.toNat) (by
    rcases Int.lt_or_eq_of_le cr.1 with q | q
    · exact q
    · exact absurd q.symm nz) (by omega)
  unfold zhr
  have b1 := Int.emod_nonneg (zcf M pa a (zhd M p pa a).2.toNat / p ^ zval p (zcf M pa a (zhd M p pa a).2.toNat)) (b := p) (by omega)
  have b2 := Int.emod_lt_of_pos (zcf M pa a (zhd M p pa a).2.toNat / p ^ zval p (zcf M pa a (zhd M p pa a).2.toNat)) (b := p) (by omega)
  refine ⟨?_, b2⟩
  rcases Int.lt_or_eq_of_le b1 with q | q
  · exact q
  · exact absurd q.symm e
theorem zres_nz {M p : Int} (hp : zpr p) (hM : 0 < M) (hM2 : M < 536870912) {pa : zP} (hv : zPv M pa) (hw : zPw p pa) {f : Nat → Int} (hf : zred M 9 f) {sm : Nat → Int} {i k : Nat} (h : 0 ≤ (zhd M p pa (zprt M pa f i)).2) : 0 < zres M p pa f sm i k ∧ zres M p pa f sm i k < p := by
  have e := zhr_nz hp hM hM2 hv (zprt_red hM hf i) h
  unfold zres ztd
  exact zt2_nz hp (zpL pa - 1) (fun j a b => ⟨(hw j a (by omega)).2.1, (hw j a (by omega)).2.2.1⟩) _ _ e.1 e.2
/-- residues of a side: reduced, not 0 at 0, 0 above the degree -/
theorem zside_re {M p : Int} (hp : zpr p) (hM : 0 < M) (hM2 : M < 536870912) {pa : zP} (hv : zPv M pa) (hw : zPw p pa) {f : Nat → Int} (hf : zred M 9 f) {m : Nat} {x : Nat × Nat} (hx : 0 ≤ zpts M p pa f m x.1) (hx2 : 0 ≤ zpts M p pa f m x.2) (hlt : x.1 < x.2) (hfl : zpts M p pa f m x.2 < zpts M p pa f m x.1) :
    zred p 9 (zside M p pa f (zpts M p pa f m) x).2.2.2.2.2.2.2 ∧ (zside M p pa f (zpts M p pa f m) x).2.2.2.2.2.2.2 0 ≠ 0 ∧ ∀ k, zgd (zpts M p pa f m) x.1 x.2 < k → (zside M p pa f (zpts M p pa f m) x).2.2.2.2.2.2.2 k = 0 := by
  have hp2 : 2 ≤ p := by rcases hp with h | h | h | h <;> omega
  obtain ⟨g1, g2, g3, g4, g5, g6, g7⟩ := zgd_ok hlt hfl
  refine ⟨fun k _ => ?_, ?_, fun k hk => ?_⟩
  · show 0 ≤ ite _ _ _ ∧ ite _ _ _ < p
    by_cases c : k ≤ zgd (zpts M p pa f m) x.1 x.2 ∧ zpts M p pa f m (x.1 + k * zrm (zpts M p pa f m) x.1 x.2) = zpts M p pa f m x.1 - k * ((zpts M p pa f m x.1 - zpts M p pa f m x.2) / (zgd (zpts M p pa f m) x.1 x.2 : Int))
    · rw [if_pos c]
      have hk2 : (k : Int) * ((zpts M p pa f m x.1 - zpts M p pa f m x.2) / (zgd (zpts M p pa f m) x.1 x.2 : Int)) ≤ zpts M p pa f m x.1 - zpts M p pa f m x.2 := by
        have := Int.mul_le_mul_of_nonneg_right (show (k : Int) ≤ (zgd (zpts M p pa f m) x.1 x.2 : Int) by omega) (show 0 ≤ (zpts M p pa f m x.1 - zpts M p pa f m x.2) / (zgd (zpts M p pa f m) x.1 x.2 : Int) by omega)
        rw [g5] at this
        exact this
      have hon : 0 ≤ zpts M p pa f m (x.1 + k * zrm (zpts M p pa f m) x.1 x.2) := by rw [c.2]; omega
      have e := zres_nz (sm := zvm pa (zsl pa (zpts M p pa f m) x.1 x.2)) (k := k) hp hM hM2 hv hw hf (zpts_on hv hon).2.2.2
      omega
    · rw [if_neg c]
      omega
  · show ite _ _ _ ≠ (0 : Int)
    rw [if_pos ⟨by omega, by rw [Nat.zero_mul, Nat.add_zero, show ((0 : Nat) : Int) = 0 from rfl, Int.zero_mul, Int.sub_zero]⟩]
    have e := zres_nz (sm := zvm pa (zsl pa (zpts M p pa f m) x.1 x.2)) (i := x.1 + 0 * zrm (zpts M p pa f m) x.1 x.2) (k := 0) hp hM hM2 hv hw hf (zpts_on hv (by rw [Nat.zero_mul, Nat.add_zero]; exact hx)).2.2.2
    omega
  · show ite _ _ _ = (0 : Int)
    rw [if_neg (fun q => by have := q.1; omega)]
/-! sums of factors -/
def zsum : List zF → Nat
  | [] => 0
  | x :: xs => x.1 * x.2.1 + zsum xs
theorem zsum_app (xs ys : List zF) : zsum (xs ++ ys) = zsum xs + zsum ys := by
  induction xs with
  | nil => rw [List.nil_append, show zsum [] = 0 from rfl, Nat.zero_add]
  | cons x xs ih =>
    rw [List.cons_append]
    show x.1 * x.2.1 + zsum (xs ++ ys) = x.1 * x.2.1 + zsum xs + zsum ys
    rw [ih, Nat.add_assoc]
theorem zTk_sum {p : Int} {g : Nat → Int} {d : Nat} : ∀ (n L : Nat) (f : Nat → Int) (tm : Nat), (zTk p g d n L f tm).1 + d * (zTk p g d n L f tm).2.2 = L + d * tm := by
  intro n
  induction n with
  | zero => intro L f tm; rfl
  | succ n ih =>
    intro L f tm
    unfold zTk
    by_cases c : zdiv p g d L f
    · rw [if_pos c, ih, Nat.mul_add, Nat.mul_one]
      have := c.1
      omega
    · rw [if_neg c]
theorem zCd_sum {p : Int} {d : Nat} : ∀ (n code L : Nat) (f : Nat → Int) (fs : List zF), zsum (zCd p d n code L f fs).2.2 + (zCd p d n code L f fs).1 = zsum fs + L := by
  intro n
  induction n with
  | zero => intro code L f fs; rfl
  | succ n ih =>
    intro code L f fs
    unfold zCd
    by_cases c : L < d
    · rw [if_pos c]
    · rw [if_neg c, ih]
      have e := zTk_sum (p := p) (g := ztrial p code d) (d := d) 9 L f 0
      by_cases c3 : 0 < (zTk p (ztrial p code d) d 9 L f 0).2.2
      · rw [if_pos c3, zsum_app]
        show zsum fs + (d * (zTk p (ztrial p code d) d 9 L f 0).2.2 + 0) + _ = _
        omega
      · rw [if_neg c3]
        have : (zTk p (ztrial p code d) d 9 L f 0).2.2 = 0 := by omega
        rw [this, Nat.mul_zero] at e
        omega
theorem zDg_sum {p : Int} : ∀ (n d L : Nat) (f : Nat → Int) (fs : List zF), zsum (zDg p n d L f fs) ≤ zsum fs + L := by
  intro n
  induction n with
  | zero => intro d L f fs; unfold zDg; omega
  | succ n ih =>
    intro d L f fs
    unfold zDg
    by_cases c : L < 2 * d
    · rw [if_pos c]
      by_cases c2 : L = 0
      · rw [if_pos c2]; omega
      · rw [if_neg c2, zsum_app]
        show zsum fs + (L * 1 + 0) ≤ _
        omega
    · rw [if_neg c]
      have e := zCd_sum (p := p) (d := d) (p ^ d).toNat 0 L f fs
      have e2 := ih (d + 1) (zCd p d (p ^ d).toNat 0 L f fs).1 (zCd p d (p ^ d).toNat 0 L f fs).2.1 (zCd p d (p ^ d).toNat 0 L f fs).2.2
      omega
theorem zFc_sum (p : Int) (f : Nat → Int) : zsum (zFc p f) ≤ (degN f 9).toNat := by
  have e := zDg_sum (p := p) 5 1 (degN f 9).toNat (zmnc p (degN f 9).toNat f) []
  unfold zFc
  rw [show zsum ([] : List zF) = 0 from rfl, Nat.zero_add] at e
  exact e
/-- every factor has a degree and comes -/
def zfok (x : zF) : Prop := 1 ≤ x.1 ∧ 1 ≤ x.2.1
theorem zCd_fok {p : Int} {d : Nat} (hd : 1 ≤ d) : ∀ (n code L : Nat) (f : Nat → Int) (fs : List zF), (∀ x, x ∈ fs → zfok x) → ∀ x, x ∈ (zCd p d n code L f fs).2.2 → zfok x := by
  intro n
  induction n with
  | zero => intro code L f fs h; exact h
  | succ n ih =>
    intro code L f fs h
    unfold zCd
    by_cases c : L < d
    · rw [if_pos c]
      exact h
    · rw [if_neg c]
      refine ih _ _ _ _ (fun x hx => ?_)
      by_cases c3 : 0 < (zTk p (ztrial p code d) d 9 L f 0).2.2
      · rw [if_pos c3] at hx
        rcases List.mem_append.mp hx with q | q
        · exact h x q
        · rw [List.mem_singleton.mp q]
          exact ⟨hd, c3⟩
      · rw [if_neg c3] at hx
        exact h x hx
theorem zDg_fok {p : Int} : ∀ (n d L : Nat) (f : Nat → Int) (fs : List zF), 1 ≤ d → (∀ x, x ∈ fs → zfok x) → ∀ x, x ∈ zDg p n d L f fs → zfok x := by
  intro n
  induction n with
  | zero => intro d L f fs _ h; exact h
  | succ n ih =>
    intro d L f fs hd h
    unfold zDg
    by_cases c : L < 2 * d
    · rw [if_pos c]
      by_cases c2 : L = 0
      · rw [if_pos c2]; exact h
      · rw [if_neg c2]
        intro x hx
        rcases List.mem_append.mp hx with q | q
        · exact h x q
        · rw [List.mem_singleton.mp q]
          exact ⟨by show 1 ≤ L; omega, Nat.le_refl _⟩
    · rw [if_neg c]
      exact ih _ _ _ _ (by omega) (zCd_fok hd _ _ _ _ _ h)
theorem zFc_fok (p : Int) (f : Nat → Int) : ∀ x, x ∈ zFc p f → zfok x := zDg_fok _ _ _ _ _ (Nat.le_refl _) (fun x hx => (by cases hx))
theorem zsum_len : ∀ fs : List zF, (∀ x, x ∈ fs → zfok x) → fs.length ≤ zsum fs := by
  intro fs
  induction fs with
  | nil => intro _; exact Nat.le_refl _
  | cons x xs ih =>
    intro h
    have e := ih (fun y hy => h y (List.mem_cons_of_mem _ hy))
    have hx := h x List.mem_cons_self
    have : 1 ≤ x.1 * x.2.1 := Nat.mul_pos hx.1 hx.2
    rw [List.length_cons]
    show _ ≤ x.1 * x.2.1 + zsum xs
    omega
