/-! PURE 24: factors' last numbers; longer ways -/
set_option maxRecDepth 100000
theorem zdvw_c0 {M : Int} {g : Nat → Int} {d : Nat} (hd : 1 ≤ d) : ∀ (n : Nat) (f : Nat → Int), d + 1 ≤ n → zdvw M g d 0 n f 0 = (f 0 - zdvw M g d 0 n f d * g 0) % M := by
  intro n
  induction n with
  | zero => intro f h; omega
  | succ n ih =>
    intro f h
    unfold zdvw
    rw [if_pos (by omega)]
    by_cases c : n = d
    · subst c
      rw [zdvw_sm (by omega)]
      unfold zdst
      rw [if_pos (by omega), if_neg (by omega), show 0 + n - n = 0 by omega]
    · rw [ih _ (by omega)]
      congr 2
      unfold zdst
      rw [if_neg (by omega)]
theorem zdiv_c0 {p : Int} {g : Nat → Int} {d L : Nat} {f : Nat → Int} (hd : 1 ≤ d) (hf : 0 < f 0 ∧ f 0 < p) (h : zdiv p g d L f) : g 0 ≠ 0 ∧ znl p g d L f 0 ≠ 0 := by
  have e := zdvw_c0 (M := p) (g := g) hd (L + 1) f (by have := h.1; omega)
  rw [h.2 0 (by omega)] at e
  have hdL := h.1
  refine ⟨fun q => ?_, fun q => ?_⟩
  · rw [q, Int.mul_zero, Int.sub_zero, Int.emod_eq_of_lt (by omega) hf.2] at e
    omega
  · unfold znl at q
    rw [if_pos (by omega), if_pos (by omega), Nat.zero_add] at q
    rw [q, Int.zero_mul, Int.sub_zero, Int.emod_eq_of_lt (by omega) hf.2] at e
    omega
theorem zTk_c0 {p : Int} (hp : 0 < p) {g : Nat → Int} {d : Nat} (hd : 1 ≤ d) : ∀ (n L : Nat) (f : Nat → Int) (tm : Nat), L < 9 → zred p 9 f → f 0 ≠ 0 → (zTk p g d n L f tm).2.1 0 ≠ 0 ∧ (tm < (zTk p g d n L f tm).2.2 → g 0 ≠ 0) := by
  intro n
  induction n with
  | zero => intro L f tm _ _ h; exact ⟨h, fun q => absurd q (Nat.lt_irrefl _)⟩
  | succ n ih =>
    intro L f tm hL hr h
    have h0 := hr 0 (by omega)
    unfold zTk
    by_cases c : zdiv p g d L f
    · rw [if_pos c]
      have e := zdiv_c0 hd ⟨by omega, h0.2⟩ c
      have e2 := ih (L - d) (znl p g d L f) (tm + 1) (by omega) (zred_znl hp hL hr) e.2
      exact ⟨e2.1, fun _ => e.1⟩
    · rw [if_neg c]
      exact ⟨h, fun q => absurd q (Nat.lt_irrefl _)⟩
theorem zCd_c0 {p : Int} (hp : 0 < p) {d : Nat} (hd : 1 ≤ d) : ∀ (n code L : Nat) (f : Nat → Int) (fs : List zF), L < 9 → zred p 9 f → f 0 ≠ 0 → (∀ x, x ∈ fs → x.2.2 0 ≠ 0) → (zCd p d n code L f fs).2.1 0 ≠ 0 ∧ ∀ x, x ∈ (zCd p d n code L f fs).2.2 → x.2.2 0 ≠ 0 := by
  intro n
  induction n with
  | zero => intro code L f fs _ _ h h2; exact ⟨h, h2⟩
  | succ n ih =>
    intro code L f fs hL hr h h2
    unfold zCd
    by_cases c : L < d
    · rw [if_pos c]
      exact ⟨h, h2⟩
    · rw [if_neg c]
      have e := zTk_ok hp hd (g := ztrial p code d) 9 L f 0 hL hr
      have e2 := zTk_c0 hp hd (g := ztrial p code d) 9 L f 0 hL hr h
      refine ih _ _ _ _ (by omega) e.2.2 e2.1 (fun x hx => ?_)
      by_cases c3 : 0 < (zTk p (ztrial p code d) d 9 L f 0).2.2
      · rw [if_pos c3] at hx
        rcases List.mem_append.mp hx with q | q
        · exact h2 x q
        · rw [List.mem_singleton.mp q]
          exact e2.2 c3
      · rw [if_neg c3] at hx
        exact h2 x hx
theorem zDg_c0 {p : Int} (hp : 0 < p) : ∀ (n d L : Nat) (f : Nat → Int) (fs : List zF), 1 ≤ d → L < 9 → zred p 9 f → fs.length + L ≤ 8 → f 0 ≠ 0 → (∀ x, x ∈ fs → x.2.2 0 ≠ 0) → ∀ x, x ∈ zDg p n d L f fs → x.2.2 0 ≠ 0 := by
  intro n
  induction n with
  | zero => intro d L f fs _ _ _ _ _ h; exact h
  | succ n ih =>
    intro d L f fs hd hL hr hl h h2
    unfold zDg
    by_cases c : L < 2 * d
    · rw [if_pos c]
      by_cases c2 : L = 0
      · rw [if_pos c2]; exact h2
      · rw [if_neg c2]
        intro x hx
        rcases List.mem_append.mp hx with q | q
        · exact h2 x q
        · rw [List.mem_singleton.mp q]
          show (if 0 ≤ L then f 0 else 0) ≠ 0
          rw [if_pos (by omega)]
          exact h
    · rw [if_neg c]
      have e := zCd_ok hp hd (p ^ d).toNat 0 L f fs hL hr hl
      have e2 := zCd_c0 hp hd (p ^ d).toNat 0 L f fs hL hr h h2
      exact ih _ _ _ _ (by omega) (by omega) e.2.2 e.1 e2.1 e2.2
theorem zFc_c0 {p : Int} (hp : zpr p) {f : Nat → Int} (hr : zred p 9 f) (h : f 0 ≠ 0) : ∀ x, x ∈ zFc p f → x.2.2 0 ≠ 0 := by
  have hp2 : 2 ≤ p := by rcases hp with h | h | h | h <;> omega
  have hdl := degN_lt f 9
  have hd0 : 0 ≤ degN f 9 := by
    rcases Int.lt_or_le (degN f 9) 0 with q | q
    · exact absurd (degN_hi f 9 0 (by omega) (by omega)) h
    · exact q
  obtain ⟨L, hL⟩ : ∃ L : Nat, degN f 9 = (L : Int) := ⟨(degN f 9).toNat, by omega⟩
  have hl0 := degN_at f 9 L hL
  have hlr := hr L (by omega)
  have hi := zinv_ok hp (v := f L) (by omega) (by omega)
  have h0 := hr 0 (by omega)
  have e := zpr_mul hp (a := f 0) (b := zinv p (f L)) (by omega) h0.2 (by omega) hi.2.1
  unfold zFc
  rw [hL, Int.toNat_natCast]
  refine zDg_c0 (by omega) 5 1 L _ [] (Nat.le_refl _) (by omega) (zred_zmnc (by omega) hr) (by rw [List.length_nil]; omega) ?_ (fun x hx => (by cases hx))
  unfold zmnc
  rw [if_pos (by omega)]
  omega
/-! numbers without a common divisor -/
theorem zco_ok {S l : Int} {R F : Nat} (h1 : 1 ≤ R) (h4 : R ≤ 4) (hc : Nat.gcd R F = 1) (hS : S = (R : Int) * l + F) : zco S R := by
  rw [Nat.gcd_rec] at hc
  intro n
  have hR : R = 1 ∨ R = 2 ∨ R = 3 ∨ R = 4 := by omega
  rcases hR with rfl | rfl | rfl | rfl
  · exact ⟨0, by omega, by omega⟩
  · have hF : F % 2 = 0 ∨ F % 2 = 1 := by omega
    rcases hF with q | q
    · rw [q] at hc
      exact absurd hc (by decide)
    · by_cases c : n % 2 = 0
      · exact ⟨0, by omega, by omega⟩
      · exact ⟨1, by omega, by omega⟩
  · have hF : F % 3 = 0 ∨ F % 3 = 1 ∨ F % 3 = 2 := by omega
    have hn : n % 3 = 0 ∨ n % 3 = 1 ∨ n % 3 = 2 := by omega
    rcases hF with q | q | q
    · rw [q] at hc
      exact absurd hc (by decide)
    · rcases hn with c | c | c
      · exact ⟨0, by omega, by omega⟩
      · exact ⟨1, by omega, by omega⟩
      · exact ⟨2, by omega, by omega⟩
    · rcases hn with c | c | c
      · exact ⟨0, by omega, by omega⟩
      · exact ⟨2, by omega, by omega⟩
      · exact ⟨1, by omega, by omega⟩
  · have hF : F % 4 = 0 ∨ F % 4 = 1 ∨ F % 4 = 2 ∨ F % 4 = 3 := by omega
    have hn : n % 4 = 0 ∨ n % 4 = 1 ∨ n % 4 = 2 ∨ n % 4 = 3 := by omega
    rcases hF with q | q | q | q
    · rw [q] at hc
      exact absurd hc (by decide)
    · rcases hn with c | c | c | c
      · exact ⟨0, by omega, by omega⟩
      · exact ⟨1, by omega, by omega⟩
      · exact ⟨2, by omega, by omega⟩
      · exact ⟨3, by omega, by omega⟩
    · rw [q] at hc
      exact absurd hc (by decide)
    · rcases hn with c | c | c | c
      · exact ⟨0, by omega, by omega⟩
      · exact ⟨3, by omega, by omega⟩
      · exact ⟨2, by omega, by omega⟩
      · exact ⟨1, by omega, by omega⟩
/-! longer ways -/
def zext (pa : zP) (n : Nat) (key : Nat → Int) (ram : Nat) (slope root : Int) (mono : Nat → Int) : zP :=
  (zpL pa + 1, (fun k => if k = zpL pa + 1 then n else zpA pa k), (fun k => if k = zpL pa + 1 then key else zpK pa k), (fun k => if k = zpL pa then ram else zpR pa k), (fun k => if k = zpL pa then slope else zpS pa k), (fun k => if k = zpL pa then root else zpO pa k), fun k => if k = zpL pa then mono else zpM pa k)
def ztop (n : Nat) (key : Nat → Int) : zP := (1, (fun _ => n), (fun _ => key), (fun _ => 1), (fun _ => 0), (fun _ => 0), fun _ _ => 0)
def zPu (pa : zP) : Prop := ∀ k, 1 ≤ k → k < zpL pa → zpS pa k ≤ 30 * ((zpD pa k * zpD pa (k + 1) : Nat) : Int)
theorem zext_D (pa : zP) (n : Nat) (key : Nat → Int) (ram : Nat) (slope root : Int) (mono : Nat → Int) : ∀ k, k ≤ zpL pa → zpD (zext pa n key ram slope root mono) k = zpD pa k := by
  intro k
  induction k with
  | zero => intro _; rfl
  | succ k ih =>
    intro hk
    by_cases c : k = 0
    · subst c
      rw [show zpD (zext pa n key ram slope root mono) (0 + 1) = 1 from zD_1 _, show zpD pa (0 + 1) = 1 from zD_1 _]
    · have e1 : zpD (zext pa n key ram slope root mono) (k + 1) = zpD (zext pa n key ram slope root mono) k * zpR (zext pa n key ram slope root mono) k := zD_s _ (by omega)
      have e2 : zpD pa (k + 1) = zpD pa k * zpR pa k := zD_s _ (by omega)
      rw [e1, e2, ih (by omega)]
      show _ * (if k = zpL pa then ram else zpR pa k) = _
      rw [if_neg (by omega)]
theorem zext_DL (pa : zP) (n : Nat) (key : Nat → Int) (ram : Nat) (slope root : Int) (mono : Nat → Int) (h : 1 ≤ zpL pa) : zpD (zext pa n key ram slope root mono) (zpL pa + 1) = zpD pa (zpL pa) * ram := by
  have e1 : zpD (zext pa n key ram slope root mono) (zpL pa + 1) = zpD (zext pa n key ram slope root mono) (zpL pa) * zpR (zext pa n key ram slope root mono) (zpL pa) := zD_s _ h
  rw [e1, zext_D pa n key ram slope root mono _ (Nat.le_refl _)]
  show _ * (if zpL pa = zpL pa then ram else zpR pa (zpL pa)) = _
  rw [if_pos rfl]
theorem zext_v {M : Int} {pa : zP} (hv : zPv M pa) (hL : zpL pa < 6) {n : Nat} {key : Nat → Int} (hk : zred M 9 key) {ram : Nat} (hr : 1 ≤ ram) (hr4 : zpD pa (zpL pa) * ram ≤ 4) {slope root : Int} (hs : 0 ≤ slope ∧ slope ≤ 1728) {mono : Nat → Int} : zPv M (zext pa n key ram slope root mono) := by
  have hL1 := hv.1
  refine ⟨by show 1 ≤ zpL pa + 1; omega, by show zpL pa + 1 ≤ 6; omega, fun k h1 h2 => ?_, ?_, fun k h1 h2 => ?_, fun k h1 h2 => ?_⟩
  · have h2 : k < zpL pa + 1 := h2
    show 1 ≤ (if k = zpL pa then ram else zpR pa k)
    by_cases c : k = zpL pa
    · rw [if_pos c]; exact hr
    · rw [if_neg c]; exact hv.2.2.1 k h1 (by omega)
  · show zpD (zext pa n key ram slope root mono) (zpL pa + 1) ≤ 4
    rw [zext_DL _ _ _ _ _ _ _ hL1]
    exact hr4
  · have h2 : k < zpL pa + 1 := h2
    show 0 ≤ (if k = zpL pa then slope else zpS pa k) ∧ (if k = zpL pa then slope else zpS pa k) ≤ 1728
    by_cases c : k = zpL pa
    · rw [if_pos c]; exact hs
    · rw [if_neg c]; exact hv.2.2.2.2.1 k h1 (by omega)
  · have h2 : k ≤ zpL pa + 1 := h2
    show zred M 9 (if k = zpL pa + 1 then key else zpK pa k)
    by_cases c : k = zpL pa + 1
    · rw [if_pos c]; exact hk
    · rw [if_neg c]; exact hv.2.2.2.2.2 k h1 (by omega)
theorem zext_w {p : Int} {pa : zP} (hw : zPw p pa) (n : Nat) (key : Nat → Int) {ram : Nat} {slope root : Int} (hc : zco slope ram) (hr : 0 < root ∧ root < p) {mono : Nat → Int} (hm0 : -1000000 ≤ mono 0 ∧ mono 0 ≤ 1000000) (hm : ∀ q, 1 ≤ q → q < 7 → 0 ≤ mono q ∧ mono q ≤ 3 ∧ (zpL pa ≤ q → mono q = 0)) : zPw p (zext pa n key ram slope root mono) := by
  intro k h1 h2
  have h2 : k < zpL pa + 1 := h2
  show zco (if k = zpL pa then slope else zpS pa k) (if k = zpL pa then ram else zpR pa k) ∧ 0 < (if k = zpL pa then root else zpO pa k) ∧ (if k = zpL pa then root else zpO pa k) < p ∧ (-1000000 ≤ (if k = zpL pa then mono else zpM pa k) 0 ∧ (if k = zpL pa then mono else zpM pa k) 0 ≤ 1000000) ∧ ∀ q, 1 ≤ q → q < 7 → 0 ≤ (if k = zpL pa then mono else zpM pa k) q ∧ (if k = zpL pa then mono else zpM pa k) q ≤ 3 ∧ (k ≤ q → (if k = zpL pa then mono else zpM pa k) q = 0)
  by_cases c : k = zpL pa
  · rw [if_pos c, if_pos c, if_pos c, if_pos c, c]
    exact ⟨hc, hr.1, hr.2, hm0, hm⟩
  · rw [if_neg c, if_neg c, if_neg c, if_neg c]
    exact hw k h1 (by omega)
theorem zext_u {pa : zP} (hu : zPu pa) (hL1 : 1 ≤ zpL pa) (n : Nat) (key : Nat → Int) {ram : Nat} {slope root : Int} {mono : Nat → Int} (hs : slope ≤ 30 * ((zpD pa (zpL pa) * (zpD pa (zpL pa) * ram) : Nat) : Int)) : zPu (zext pa n key ram slope root mono) := by
  intro k h1 h2
  have h2 : k < zpL pa + 1 := h2
  show (if k = zpL pa then slope else zpS pa k) ≤ _
  by_cases c : k = zpL pa
  · rw [if_pos c, c, zext_D _ _ _ _ _ _ _ _ (Nat.le_refl _), zext_DL _ _ _ _ _ _ _ hL1]
    exact hs
  · rw [if_neg c, zext_D _ _ _ _ _ _ _ _ (by omega), zext_D _ _ _ _ _ _ _ _ (by omega)]
    exact hu k h1 (by omega)
theorem ztop_v {M : Int} {n : Nat} {key : Nat → Int} (hk : zred M 9 key) : zPv M (ztop n key) :=
  ⟨Nat.le_refl _, by show 1 ≤ 6; omega, fun k h1 h2 => by have h2 : k < 1 := h2; omega, by show zpD (ztop n key) 1 ≤ 4; rw [show zpD (ztop n key) 1 = 1 from zD_1 _]; omega, fun k h1 h2 => by have h2 : k < 1 := h2; omega, fun _ _ _ => hk⟩
theorem ztop_w {p : Int} {n : Nat} {key : Nat → Int} : zPw p (ztop n key) := fun k h1 h2 => by have h2 : k < 1 := h2; omega
theorem ztop_u {n : Nat} {key : Nat → Int} : zPu (ztop n key) := fun k h1 h2 => by have h2 : k < 1 := h2; omega
/-! values of heads are small -/
theorem zhs_u {M : Int} {pa : zP} (hv : zPv M pa) (hu : zPu pa) (j : Nat) : ∀ n : Nat, n < zpL pa → zhs pa j n ≤ 30 * ((zpD pa (zpL pa) : Int) * ((zpD pa (n + 1) : Int) - 1)) := by
  intro n
  induction n with
  | zero =>
    intro _
    rw [show zpD pa (0 + 1) = 1 from zD_1 _]
    show (0 : Int) ≤ 30 * ((zpD pa (zpL pa) : Int) * (1 - 1))
    omega
  | succ n ih =>
    intro hn
    have e := ih (by omega)
    have hR := hv.R (k := n + 1) (by omega) hn
    have hS := hv.2.2.2.2.1 (n + 1) (by omega) hn
    have hSu := hu (n + 1) (by omega) hn
    have hd : zdg pa j (n + 1) < zpR pa (n + 1) := Nat.mod_lt _ hR.1
    have hDs := hv.Ds (k := n + 1) (by omega)
    obtain ⟨d1, d2, c, hc, hc1⟩ := hv.D (k := n + 2) (by omega) (by omega)
    have hq : zpD pa (zpL pa) / zpD pa (n + 2) = c := by
      rw [hc]
      exact Nat.mul_div_cancel _ d1
    unfold zhs
    rw [hq]
    rw [show n + 1 + 1 = n + 2 from rfl] at hSu hDs ⊢
    -- the numbers at hand
    generalize zpD pa (zpL pa) = E at *
    generalize zpD pa (n + 2) = D2 at *
    generalize zpD pa (n + 1) = D1 at *
    generalize zpR pa (n + 1) = R at *
    generalize zpS pa (n + 1) = S at *
    generalize zdg pa j (n + 1) = x at *
    have h1 : (x : Int) * S ≤ ((R : Int) - 1) * (30 * ((D1 * D2 : Nat) : Int)) := Int.mul_le_mul (by omega) hSu hS.1 (by omega)
    have h2 : (x : Int) * S * (c : Int) ≤ ((R : Int) - 1) * (30 * ((D1 * D2 : Nat) : Int)) * c := Int.mul_le_mul_of_nonneg_right h1 (by omega)
    have h3 : ((R : Int) - 1) * (30 * ((D1 * D2 : Nat) : Int)) * c = 30 * ((E : Int) * ((D2 : Int) - D1)) := by
      rw [hc, hDs]
      simp only [Int.natCast_mul, Int.sub_mul, Int.mul_sub, Int.one_mul]
      congr 1
      · simp only [Int.mul_comm, Int.mul_left_comm, Int.mul_assoc]
      · simp only [Int.mul_comm, Int.mul_left_comm, Int.mul_assoc]
    have h4 : 30 * ((E : Int) * ((D1 : Int) - 1)) + 30 * ((E : Int) * ((D2 : Int) - D1)) = 30 * ((E : Int) * ((D2 : Int) - 1)) := by
      rw [← Int.mul_add, ← Int.mul_add]
      congr 2
      omega
    omega
theorem zbs_le {M p B : Int} {pa : zP} {a : Nat → Int} (hB : -1 ≤ B) (h : ∀ c j, zhv p pa c j ≤ B) : ∀ j, (zbs M p pa a j).1 ≤ B := by
  intro j
  induction j with
  | zero => unfold zbs; exact hB
  | succ j ih =>
    unfold zbs
    by_cases c : zcf M pa a j = 0
    · rw [if_pos c]; exact ih
    · rw [if_neg c]
      by_cases c2 : (zbs M p pa a j).1 < 0 ∨ zhv p pa (zcf M pa a j) j < (zbs M p pa a j).1
      · rw [if_pos c2]; exact h _ _
      · rw [if_neg c2]; exact ih
theorem zhd_u {M p : Int} {pa : zP} (hv : zPv M pa) (hu : zPu pa) (a : Nat → Int) : (zhd M p pa a).1 ≤ 30 * ((zpD pa (zpL pa) : Int) * zpD pa (zpL pa)) := by
  have hL1 := hv.1
  have hD := hv.D (k := zpL pa) hL1 (Nat.le_refl _)
  refine zbs_le ?_ (fun c j => ?_) _
  · have : 0 ≤ (zpD pa (zpL pa) : Int) * zpD pa (zpL pa) := Int.mul_nonneg (by omega) (by omega)
    omega
  · have e := zhs_u hv hu j (zpL pa - 1) (by omega)
    rw [show zpL pa - 1 + 1 = zpL pa by omega] at e
    have hb : zval p c ≤ 30 := zvl_bd 30 c
    have h2 : (zpD pa (zpL pa) : Int) * (zval p c : Int) ≤ (zpD pa (zpL pa) : Int) * 30 := Int.mul_le_mul_of_nonneg_left (by omega) (by omega)
    unfold zhv
    rw [Int.mul_sub, Int.mul_one] at e
    omega
