/-! PURE 10: ways down, heads; the model's head -/
set_option maxRecDepth 100000
/-- a way down: its length, the knots' numbers, keys, and what was gone by: ramification, slope, root, monomial -/
abbrev zP : Type := Nat × (Nat → Nat) × (Nat → Nat → Int) × (Nat → Nat) × (Nat → Int) × (Nat → Int) × (Nat → Nat → Int)
def zpL (a : zP) : Nat := a.1
def zpA (a : zP) : Nat → Nat := a.2.1
def zpK (a : zP) : Nat → Nat → Int := a.2.2.1
def zpR (a : zP) : Nat → Nat := a.2.2.2.1
def zpS (a : zP) : Nat → Int := a.2.2.2.2.1
def zpO (a : zP) : Nat → Int := a.2.2.2.2.2.1
def zpM (a : zP) : Nat → Nat → Int := a.2.2.2.2.2.2
def zD (R : Nat → Nat) : Nat → Nat
  | 0 => 1
  | k + 1 => if k = 0 then 1 else zD R k * R k
def zpD (a : zP) (k : Nat) : Nat := zD (zpR a) k
theorem zD_1 (R : Nat → Nat) : zD R 1 = 1 := by
  unfold zD
  rw [if_pos rfl]
theorem zD_s (R : Nat → Nat) {k : Nat} (h : 1 ≤ k) : zD R (k + 1) = zD R k * R k := by
  conv => lhs; unfold zD
  rw [if_neg (by omega)]
theorem zD_pos {R : Nat → Nat} : ∀ (n : Nat), (∀ k, 1 ≤ k → k < n → 1 ≤ R k) → 1 ≤ zD R n := by
  intro n
  induction n with
  | zero => intro _; exact Nat.le_refl _
  | succ n ih =>
    intro h
    by_cases c : n = 0
    · subst c
      rw [zD_1]
      exact Nat.le_refl _
    · rw [zD_s R (by omega)]
      exact Nat.mul_pos (ih (fun k a b => h k a (by omega))) (h n (by omega) (by omega))
theorem zD_dvd {R : Nat → Nat} {k : Nat} (hk : 1 ≤ k) : ∀ n : Nat, ∃ c : Nat, zD R (k + n) = c * zD R k ∧ ((∀ j, 1 ≤ j → j < k + n → 1 ≤ R j) → 1 ≤ c) := by
  intro n
  induction n with
  | zero => exact ⟨1, by rw [Nat.add_zero, Nat.one_mul], fun _ => Nat.le_refl _⟩
  | succ n ih =>
    obtain ⟨c, h1, h2⟩ := ih
    refine ⟨c * R (k + n), ?_, fun h => ?_⟩
    · rw [show k + (n + 1) = (k + n) + 1 from rfl, zD_s R (by omega), h1, Nat.mul_right_comm]
    · exact Nat.mul_pos (h2 (fun j a b => h j a (by omega))) (h (k + n) (by omega) (by omega))
/-- blocks of a row by the keys of the levels below, from above; i levels are gone through -/
def zB (M : Int) (pa : zP) (a : Nat → Int) : Nat → Nat → Nat → Int
  | 0, _ => a
  | i + 1, b => zpart M (zpK pa (zpL pa - 1 - i)) (zpD pa (zpL pa - 1 - i)) (b % zpR pa (zpL pa - 1 - i)) (zB M pa a i (b / zpR pa (zpL pa - 1 - i)))
def zcf (M : Int) (pa : zP) (a : Nat → Int) (j : Nat) : Int := zB M pa a (zpL pa - 1) j 0
def zvl (p : Int) : Nat → Int → Nat
  | 0, _ => 0
  | n + 1, v => if v % p = 0 then zvl p n (v / p) + 1 else 0
def zval (p v : Int) : Nat := zvl p 30 v
def zdg (pa : zP) (j k : Nat) : Nat := j / zpD pa k % zpR pa k
def zhs (pa : zP) (j : Nat) : Nat → Int
  | 0 => 0
  | n + 1 => zhs pa j n + (zdg pa j (n + 1) : Int) * zpS pa (n + 1) * ((zpD pa (zpL pa) / zpD pa (n + 2) : Nat) : Int)
def zhv (p : Int) (pa : zP) (c : Int) (j : Nat) : Int := (zpD pa (zpL pa) : Int) * zval p c + zhs pa j (zpL pa - 1)
def zbs (M p : Int) (pa : zP) (a : Nat → Int) : Nat → Int × Int
  | 0 => (-1, -1)
  | j + 1 => if zcf M pa a j = 0 then zbs M p pa a j else if (zbs M p pa a j).1 < 0 ∨ zhv p pa (zcf M pa a j) j < (zbs M p pa a j).1 then (zhv p pa (zcf M pa a j) j, j) else zbs M p pa a j
def zhd (M p : Int) (pa : zP) (a : Nat → Int) : Int × Int := zbs M p pa a (zpD pa (zpL pa))
def zhm (M p : Int) (pa : zP) (a : Nat → Int) : Nat → Int := fun k => if (zhd M p pa a).2 < 0 then 0 else if k = 0 then zval p (zcf M pa a (zhd M p pa a).2.toNat) else if k < zpL pa then zdg pa (zhd M p pa a).2.toNat k else 0
def zhr (M p : Int) (pa : zP) (a : Nat → Int) : Int := zcf M pa a (zhd M p pa a).2.toNat / p ^ zval p (zcf M pa a (zhd M p pa a).2.toNat) % p
/-- the knot at hand -/
def zHd (t : tS) (pa : zP) : Prop := tgi t 49 = (zpL pa : Int) ∧ (∀ k, 1 ≤ k → k ≤ zpL pa → tga t 51 k = (zpD pa k : Int) ∧ tga t 53 k = (zpA pa k : Int)) ∧ ∀ k, 1 ≤ k → k < zpL pa → tga t 50 k = (zpR pa k : Int) ∧ tga t 52 k = zpS pa k ∧ tga t 54 k = (zpA pa (k + 1) : Int)
def zKy (t : tS) (pa : zP) : Prop := ∀ k, 1 ≤ k → k ≤ zpL pa → zpA pa k < 40 ∧ ∀ i, i < 9 → tgl t 9 (9 * zpA pa k + i) = zpK pa k i
/-- what holds of every way down -/
def zPv (M : Int) (pa : zP) : Prop := 1 ≤ zpL pa ∧ zpL pa ≤ 6 ∧ (∀ k, 1 ≤ k → k < zpL pa → 1 ≤ zpR pa k) ∧ zpD pa (zpL pa) ≤ 4 ∧ (∀ k, 1 ≤ k → k < zpL pa → 0 ≤ zpS pa k ∧ zpS pa k ≤ 1728) ∧ ∀ k, 1 ≤ k → k ≤ zpL pa → zred M 9 (zpK pa k)
theorem zPv.D {M : Int} {pa : zP} (h : zPv M pa) {k : Nat} (h1 : 1 ≤ k) (h2 : k ≤ zpL pa) : 1 ≤ zpD pa k ∧ zpD pa k ≤ 4 ∧ ∃ c, zpD pa (zpL pa) = c * zpD pa k ∧ 1 ≤ c := by
  obtain ⟨c, e1, e2⟩ := zD_dvd (R := zpR pa) h1 (zpL pa - k)
  rw [show k + (zpL pa - k) = zpL pa by omega] at e1 e2
  have hc := e2 h.2.2.1
  have hk : 1 ≤ zpD pa k := zD_pos k (fun j a b => h.2.2.1 j a (by omega))
  have h4 := h.2.2.2.1
  have e3 : zpD pa (zpL pa) = c * zpD pa k := e1
  refine ⟨hk, ?_, c, e3, hc⟩
  have : zpD pa k ≤ c * zpD pa k := Nat.le_mul_of_pos_left _ hc
  omega
theorem zPv.Ds {M : Int} {pa : zP} (h : zPv M pa) {k : Nat} (h1 : 1 ≤ k) : zpD pa (k + 1) = zpD pa k * zpR pa k := zD_s _ h1
theorem zPv.R {M : Int} {pa : zP} (h : zPv M pa) {k : Nat} (h1 : 1 ≤ k) (h2 : k < zpL pa) : 1 ≤ zpR pa k ∧ zpR pa k ≤ 4 := by
  have a := h.2.2.1 k h1 h2
  have b := h.D h1 (by omega)
  have c := h.D (k := k + 1) (by omega) (by omega)
  rw [h.Ds h1] at c
  have : zpR pa k ≤ zpD pa k * zpR pa k := Nat.le_mul_of_pos_left _ b.1
  exact ⟨a, by omega⟩
theorem zB_hi {M : Int} {pa : zP} {a : Nat → Int} (ha : ∀ x, zpD pa (zpL pa) ≤ x → a x = 0) : ∀ (i b x : Nat), i ≤ zpL pa - 1 → zpD pa (zpL pa - i) ≤ x → zB M pa a i b x = 0 := by
  intro i b x hi hx
  cases i with
  | zero => exact ha x hx
  | succ i =>
    unfold zB
    refine zpart_hi ?_
    rw [show zpL pa - (i + 1) = zpL pa - 1 - i by omega] at hx
    exact hx
theorem zspl_g {M : Int} {g g' : Nat → Int} {d e : Nat} (h : ∀ q, q < d → g q = g' q) : ∀ (k s : Nat) (f : Nat → Int), zspl M g d e k s f = zspl M g' d e k s f := by
  intro k
  induction k with
  | zero => intro s f; rfl
  | succ k ih =>
    intro s f
    unfold zspl
    rw [zdvw_g h, ih]
theorem zvl_bd {p : Int} : ∀ (n : Nat) (v : Int), zvl p n v ≤ n := by
  intro n
  induction n with
  | zero => intro v; exact Nat.le_refl _
  | succ n ih =>
    intro v
    unfold zvl
    by_cases c : v % p = 0
    · rw [if_pos c]
      have := ih (v / p)
      omega
    · rw [if_neg c]
      omega
theorem sM_powerIn (t : tS) (v : Int) (hP : zPR t) (h1 : 0 < v) (h2 : v < 536870912) (Q : Int32 → Prop) (h : Q (i32 (zval (tgi t 0) v : Nat))) : wM_powerIn (cv t) (i64 v) Q := by
  have hp := hP.p
  have S : ∀ (n : Nat) (v c : Int), 0 < v → v < 2 ^ n → v < 536870912 → Q (i32 (c + (zvl (tgi t 0) n v : Nat))) → wM_powerIn_l5 Q (cv t) (n + 1) (i32 c) (i64 v) := by
    intro n
    induction n with
    | zero => intro v c h1 h2; rw [Int.pow_zero] at h2; omega
    | succ n ih =>
      intro v c h1 h2 h3 h
      rw [wM_powerIn_l5]
      unfold zvl at h
      try simp only [zl32, zl64, i32_add, i32_sub, i32_mul, i32_neg, i64_add, i64_sub, i64_mul, i64_neg, cv_gi, cv_gw, cv_ga, cv_gl, cv_pi, cv_pw, cv_pa, cv_pl, zf_S, zf_i, zf_l, mz1, mz2, mz3, mz4, zr_ii, zr_iw, zr_ia, zr_il, zr_wi, zr_ww, zr_wa, zr_wl, zr_ai, zr_aw, zr_aa, zr_al, zr_li, zr_lw, zr_la, zr_ll, zw_ii, zw_ww, zw_aa, zw_ll, reduceIte, Nat.reduceEqDiff, if_true, if_false]
      rw [i32_64 (by omega) (by omega), i64_div (by omega) (by omega) (by omega) (by omega)]
      try simp only [zl32, zl64, i32_add, i32_sub, i32_mul, i32_neg, i64_add, i64_sub, i64_mul, i64_neg, cv_gi, cv_gw, cv_ga, cv_gl, cv_pi, cv_pw, cv_pa, cv_pl, zf_S, zf_i, zf_l, mz1, mz2, mz3, mz4, zr_ii, zr_iw, zr_ia, zr_il, zr_wi, zr_ww, zr_wa, zr_wl, zr_ai, zr_aw, zr_aa, zr_al, zr_li, zr_lw, zr_la, zr_ll, zw_ii, zw_ww, zw_aa, zw_ll, reduceIte, Nat.reduceEqDiff, if_true, if_false]
      have hv : 0 ≤ v := by omega
      simp only [ze_tdivn hv, ze_emodn]
      have hm := Int.emod_lt_of_pos v (b := tgi t 0) (by omega)
      have hm2 := Int.emod_nonneg v (b := tgi t 0) (by omega)
      repeat' (first | (exfalso; omega) | (with_reducible refine zb_in ?_ ?_ ?_ ?_; omega; omega; omega) | (with_reducible refine zb_le ?_ ?_ ?_ ?_ (fun _ => ?_) (fun _ => ?_); omega; omega; omega; omega) | (with_reducible refine zb_lt ?_ ?_ ?_ ?_ (fun _ => ?_) (fun _ => ?_); omega; omega; omega; omega) | (with_reducible refine zb_eq ?_ ?_ ?_ ?_ (fun _ => ?_) (fun _ => ?_); omega; omega; omega; omega) | (with_reducible refine zb_leL ?_ ?_ ?_ ?_ (fun _ => ?_) (fun _ => ?_); omega; omega; omega; omega) | (with_reducible refine zb_ltL ?_ ?_ ?_ ?_ (fun _ => ?_) (fun _ => ?_); omega; omega; omega; omega) | (with_reducible refine zb_eqL ?_ ?_ ?_ ?_ (fun _ => ?_) (fun _ => ?_); omega; omega; omega; omega) | (with_reducible refine zb_nz ?_ ?_ ?_ ?_; omega; omega; omega) | (with_reducible refine zb_nzL ?_ ?_ ?_ ?_; omega; omega; omega) | with_reducible refine zb_ite ?_ | with_reducible refine zb_iteL ?_ | ((with_reducible intro y hy); subst hy; try simp only [zl32, zl64, i32_add, i32_sub, i32_mul, i32_neg, i64_add, i64_sub, i64_mul, i64_neg, cv_gi, cv_gw, cv_ga, cv_gl, cv_pi, cv_pw, cv_pa, cv_pl, zf_S, zf_i, zf_l, mz1, mz2, mz3, mz4, zr_ii, zr_iw, zr_ia, zr_il, zr_wi, zr_ww, zr_wa, zr_wl, zr_ai, zr_aw, zr_aa, zr_al, zr_li, zr_lw, zr_la, zr_ll, zw_ii, zw_ww, zw_aa, zw_ll, reduceIte, Nat.reduceEqDiff, if_true, if_false]) | with_reducible refine zb_o1 ?_ | with_reducible refine zb_o2 ?_ | with_reducible refine zb_o3 ?_ | with_reducible refine zb_o4 ?_ | with_reducible refine zb_tr ?_ | exact trivial | with_reducible refine zb_T ?_ | with_reducible refine zb_sp ?_ ?_)
      · rw [if_pos (by assumption)] at h
        have hd : v = tgi t 0 * (v / tgi t 0) := by
          have := Int.mul_ediv_add_emod v (tgi t 0)
          omega
        have hq0 : 0 ≤ v / tgi t 0 := Int.ediv_nonneg hv (by omega)
        have hq1 : 0 < v / tgi t 0 := by
          rcases Int.lt_or_eq_of_le hq0 with q | q
          · exact q
          · rw [← q, Int.mul_zero] at hd
            omega
        have hq2 : 2 * (v / tgi t 0) ≤ v := by
          have := Int.mul_le_mul_of_nonneg_right hp.1 hq0
          omega
        rw [Int.pow_succ] at h2
        refine ih (v / tgi t 0) (c + 1) hq1 (by omega) (by omega) ?_
        rw [show c + 1 + ((zvl (tgi t 0) n (v / tgi t 0) : Nat) : Int) = c + ((zvl (tgi t 0) n (v / tgi t 0) + 1 : Nat) : Int) by omega]
        exact h
      · rw [if_neg (by assumption)] at h
        rw [show c + ((0 : Nat) : Int) = c by omega] at h
        exact h
  unfold wM_powerIn
  try simp only [zl32, zl64, i32_add, i32_sub, i32_mul, i32_neg, i64_add, i64_sub, i64_mul, i64_neg, cv_gi, cv_gw, cv_ga, cv_gl, cv_pi, cv_pw, cv_pa, cv_pl, zf_S, zf_i, zf_l, mz1, mz2, mz3, mz4]
  refine ⟨31, S 30 v 0 h1 (by omega) h2 ?_⟩
  rw [Int.zero_add]
  exact h
