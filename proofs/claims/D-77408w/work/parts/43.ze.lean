/-! PURE 14: divisors, monomials of values, monomials taken down; the model's -/
set_option maxRecDepth 100000
theorem sM_divisor (a b : Nat) (ha : a < 2147483648) (hb : b < 2147483648) (Q : Int32 → Prop) (h : Q (i32 (Nat.gcd a b : Nat))) : wM_divisor (i32 a) (i32 b) Q := by
  have S : ∀ n a b : Nat, b ≤ n → a < 2147483648 → b < 2147483648 → Q (i32 (Nat.gcd a b : Nat)) → wM_divisor_l4 Q (n + 1) (i32 a) (i32 b) := by
    intro n
    induction n with
    | zero =>
      intro a b hn ha hb h
      have : b = 0 := by omega
      subst this
      rw [Nat.gcd_zero_right] at h
      rw [wM_divisor_l4]
      try simp only [zl32, zl64, i32_add, i32_sub, i32_mul, i32_neg, i64_add, i64_sub, i64_mul, i64_neg, cv_gi, cv_gw, cv_ga, cv_gl, cv_pi, cv_pw, cv_pa, cv_pl, zf_S, zf_i, zf_l, mz1, mz2, mz3, mz4]
      repeat' (first | (exfalso; omega) | (with_reducible refine zb_in ?_ ?_ ?_ ?_; omega; omega; omega) | (with_reducible refine zb_le ?_ ?_ ?_ ?_ (fun _ => ?_) (fun _ => ?_); omega; omega; omega; omega) | (with_reducible refine zb_lt ?_ ?_ ?_ ?_ (fun _ => ?_) (fun _ => ?_); omega; omega; omega; omega) | (with_reducible refine zb_eq ?_ ?_ ?_ ?_ (fun _ => ?_) (fun _ => ?_); omega; omega; omega; omega) | (with_reducible refine zb_leL ?_ ?_ ?_ ?_ (fun _ => ?_) (fun _ => ?_); omega; omega; omega; omega) | (with_reducible refine zb_ltL ?_ ?_ ?_ ?_ (fun _ => ?_) (fun _ => ?_); omega; omega; omega; omega) | (with_reducible refine zb_eqL ?_ ?_ ?_ ?_ (fun _ => ?_) (fun _ => ?_); omega; omega; omega; omega) | (with_reducible refine zb_nz ?_ ?_ ?_ ?_; omega; omega; omega) | (with_reducible refine zb_nzL ?_ ?_ ?_ ?_; omega; omega; omega) | with_reducible refine zb_ite ?_ | with_reducible refine zb_iteL ?_ | ((with_reducible intro y hy); subst hy; try simp only [zl32, zl64, i32_add, i32_sub, i32_mul, i32_neg, i64_add, i64_sub, i64_mul, i64_neg, cv_gi, cv_gw, cv_ga, cv_gl, cv_pi, cv_pw, cv_pa, cv_pl, zf_S, zf_i, zf_l, mz1, mz2, mz3, mz4, zr_ii, zr_iw, zr_ia, zr_il, zr_wi, zr_ww, zr_wa, zr_wl, zr_ai, zr_aw, zr_aa, zr_al, zr_li, zr_lw, zr_la, zr_ll, zw_ii, zw_ww, zw_aa, zw_ll, reduceIte, Nat.reduceEqDiff, if_true, if_false]) | with_reducible refine zb_o1 ?_ | with_reducible refine zb_o2 ?_ | with_reducible refine zb_o3 ?_ | with_reducible refine zb_o4 ?_ | with_reducible refine zb_tr ?_ | exact trivial | with_reducible refine zb_T ?_ | with_reducible refine zb_sp ?_ ?_)
      exact h
    | succ n ih =>
      intro a b hn ha hb h
      rw [wM_divisor_l4]
      try simp only [zl32, zl64, i32_add, i32_sub, i32_mul, i32_neg, i64_add, i64_sub, i64_mul, i64_neg, cv_gi, cv_gw, cv_ga, cv_gl, cv_pi, cv_pw, cv_pa, cv_pl, zf_S, zf_i, zf_l, mz1, mz2, mz3, mz4]
      repeat' (first | (exfalso; omega) | (with_reducible refine zb_in ?_ ?_ ?_ ?_; omega; omega; omega) | (with_reducible refine zb_le ?_ ?_ ?_ ?_ (fun _ => ?_) (fun _ => ?_); omega; omega; omega; omega) | (with_reducible refine zb_lt ?_ ?_ ?_ ?_ (fun _ => ?_) (fun _ => ?_); omega; omega; omega; omega) | (with_reducible refine zb_eq ?_ ?_ ?_ ?_ (fun _ => ?_) (fun _ => ?_); omega; omega; omega; omega) | (with_reducible refine zb_leL ?_ ?_ ?_ ?_ (fun _ => ?_) (fun _ => ?_); omega; omega; omega; omega) | (with_reducible refine zb_ltL ?_ ?_ ?_ ?_ (fun _ => ?_) (fun _ => ?_); omega; omega; omega; omega) | (with_reducible refine zb_eqL ?_ ?_ ?_ ?_ (fun _ => ?_) (fun _ => ?_); omega; omega; omega; omega) | (with_reducible refine zb_nz ?_ ?_ ?_ ?_; omega; omega; omega) | (with_reducible refine zb_nzL ?_ ?_ ?_ ?_; omega; omega; omega) | with_reducible refine zb_ite ?_ | with_reducible refine zb_iteL ?_ | ((with_reducible intro y hy); subst hy; try simp only [zl32, zl64, i32_add, i32_sub, i32_mul, i32_neg, i64_add, i64_sub, i64_mul, i64_neg, cv_gi, cv_gw, cv_ga, cv_gl, cv_pi, cv_pw, cv_pa, cv_pl, zf_S, zf_i, zf_l, mz1, mz2, mz3, mz4, zr_ii, zr_iw, zr_ia, zr_il, zr_wi, zr_ww, zr_wa, zr_wl, zr_ai, zr_aw, zr_aa, zr_al, zr_li, zr_lw, zr_la, zr_ll, zw_ii, zw_ww, zw_aa, zw_ll, reduceIte, Nat.reduceEqDiff, if_true, if_false]) | with_reducible refine zb_o1 ?_ | with_reducible refine zb_o2 ?_ | with_reducible refine zb_o3 ?_ | with_reducible refine zb_o4 ?_ | with_reducible refine zb_tr ?_ | exact trivial | with_reducible refine zb_T ?_ | with_reducible refine zb_sp ?_ ?_)
      · have : b = 0 := by omega
        subst this
        rw [Nat.gcd_zero_right] at h
        exact h
      · have hlt : a % b < b := Nat.mod_lt _ (by omega)
        have e := ih b (a % b) (by omega) hb (by omega) (by
          rw [Nat.gcd_comm, ← Nat.gcd_rec, Nat.gcd_comm]
          exact h)
        rw [i32_div (by omega) (by omega) (by omega) (by omega)]
        try simp only [zl32, zl64, i32_add, i32_sub, i32_mul, i32_neg, i64_add, i64_sub, i64_mul, i64_neg, cv_gi, cv_gw, cv_ga, cv_gl, cv_pi, cv_pw, cv_pa, cv_pl, zf_S, zf_i, zf_l, mz1, mz2, mz3, mz4]
        rw [show (a : Int).tdiv (b : Int) = (a : Int) / (b : Int) from rfl, ze_emodn]
        exact e
  exact ⟨b + 1, S b a b (Nat.le_refl _) ha hb h⟩
/-- how often a slope is taken off, till what remains is of the ramification -/
def zfnd (n S : Int) (R : Nat) : Nat → Nat → Nat
  | 0, t => t
  | k + 1, t => if (n - t * S) % R = 0 then t else zfnd n S R k (t + 1)
def zft (n S : Int) (R : Nat) : Nat := zfnd n S R R 0
/-- every number has such -/
def zco (S : Int) (R : Nat) : Prop := ∀ n : Int, ∃ t : Nat, t < R ∧ (n - t * S) % R = 0
theorem zfnd_ok {n S : Int} {R : Nat} : ∀ (k t : Nat), (∃ q, t ≤ q ∧ q < t + k ∧ (n - q * S) % R = 0) → t ≤ zfnd n S R k t ∧ zfnd n S R k t < t + k ∧ (n - zfnd n S R k t * S) % R = 0 := by
  intro k
  induction k with
  | zero => intro t ⟨q, h1, h2, _⟩; omega
  | succ k ih =>
    intro t ⟨q, h1, h2, h3⟩
    unfold zfnd
    by_cases c : (n - t * S) % R = 0
    · rw [if_pos c]
      exact ⟨Nat.le_refl _, by omega, c⟩
    · rw [if_neg c]
      have hq : q ≠ t := fun e => c (e ▸ h3)
      have e := ih (t + 1) ⟨q, by omega, by omega, h3⟩
      exact ⟨by omega, by omega, e.2.2⟩
theorem zft_ok {n S : Int} {R : Nat} (h : zco S R) : zft n S R < R ∧ (n - zft n S R * S) % R = 0 := by
  obtain ⟨t, h1, h2⟩ := h n
  have e := zfnd_ok (n := n) (S := S) (R := R) R 0 ⟨t, by omega, by omega, h2⟩
  exact ⟨by have := e.2.1; unfold zft; omega, e.2.2⟩
/-- what remains below a level; the powers -/
def zvn (pa : zP) (v : Int) : Nat → Int
  | 0 => v
  | i + 1 => (zvn pa v i - zft (zvn pa v i) (zpS pa (zpL pa - 1 - i)) (zpR pa (zpL pa - 1 - i)) * zpS pa (zpL pa - 1 - i)) / zpR pa (zpL pa - 1 - i)
def zvm (pa : zP) (v : Int) : Nat → Int := fun k => if k = 0 then zvn pa v (zpL pa - 1) else if k < zpL pa then zft (zvn pa v (zpL pa - 1 - k)) (zpS pa k) (zpR pa k) else 0
/-- more that holds of ways down -/
def zPw (p : Int) (pa : zP) : Prop := ∀ k, 1 ≤ k → k < zpL pa → zco (zpS pa k) (zpR pa k) ∧ 0 < zpO pa k ∧ zpO pa k < p ∧ (-1000000 ≤ zpM pa k 0 ∧ zpM pa k 0 ≤ 1000000) ∧ ∀ q, 1 ≤ q → q < 7 → 0 ≤ zpM pa k q ∧ zpM pa k q ≤ 3 ∧ (k ≤ q → zpM pa k q = 0)
theorem zvn_bd {M p : Int} {pa : zP} (hv : zPv M pa) (hw : zPw p pa) {v : Int} (h1 : -100000 ≤ v) (h2 : v ≤ 400000) : ∀ i : Nat, i < zpL pa → -100000 - 6000 * (i : Int) ≤ zvn pa v i ∧ zvn pa v i ≤ 400000 := by
  intro i
  induction i with
  | zero => intro _; exact ⟨by unfold zvn; omega, by unfold zvn; omega⟩
  | succ i ih =>
    intro hi
    have e := ih (by omega)
    have hL6 := hv.2.1
    have hR := hv.R (k := zpL pa - 1 - i) (by omega) (by omega)
    have hS := hv.2.2.2.2.1 (zpL pa - 1 - i) (by omega) (by omega)
    have ht := zft_ok (n := zvn pa v i) (hw (zpL pa - 1 - i) (by omega) (by omega)).1
    unfold zvn
    revert e ht
    generalize zvn pa v i = n
    intro e ht
    have b1 : 0 ≤ (zft n (zpS pa (zpL pa - 1 - i)) (zpR pa (zpL pa - 1 - i)) : Int) * zpS pa (zpL pa - 1 - i) := Int.mul_nonneg (by omega) hS.1
    have b2 : (zft n (zpS pa (zpL pa - 1 - i)) (zpR pa (zpL pa - 1 - i)) : Int) * zpS pa (zpL pa - 1 - i) ≤ 3 * 1728 := Int.mul_le_mul (by omega) hS.2 hS.1 (by omega)
    revert b1 b2
    generalize (zft n (zpS pa (zpL pa - 1 - i)) (zpR pa (zpL pa - 1 - i)) : Int) * zpS pa (zpL pa - 1 - i) = x
    intro b1 b2
    revert hR
    generalize zpR pa (zpL pa - 1 - i) = r
    intro hR
    have : r = 1 ∨ r = 2 ∨ r = 3 ∨ r = 4 := by omega
    rcases this with rfl | rfl | rfl | rfl <;> omega
theorem ze_tm0 {a b : Int} : a.tmod b = 0 ↔ a % b = 0 := by
  rw [← Int.dvd_iff_tmod_eq_zero, ← Int.dvd_iff_emod_eq_zero]
theorem ze_tde {a b : Int} (h : a % b = 0) : a.tdiv b = a / b := by
  have hd := Int.dvd_of_emod_eq_zero h
  exact Int.tdiv_eq_ediv_of_dvd hd
theorem sM_laysMonomial (t : tS) (pa : zP) (v : Int) {M p : Int} (hH : zHd t pa) (hv : zPv M pa) (hw : zPw p pa) (h1 : -100000 ≤ v) (h2 : v ≤ 400000) (Q : mS → Prop) (h : Q (cv (tsa t 55 (zov 7 (zvm pa v) (tga t 55))))) : wM_laysMonomial (cv t) (i32 v) Q := by
  have hL6 := hv.2.1
  have hL1 := hv.1
  have h49 := hH.1
  have Z : ∀ (i : Nat), i < zpL pa → ∀ u : tS, u = tsa t 55 (zov 7 (fun q => if q < zpL pa ∧ zpL pa - 1 - (zpL pa - 1 - i) < q then zvm pa v q else 0) (tga t 55)) → wM_laysMonomial_l30 Q (i + 1) (cv u) (i32 (zvn pa v (zpL pa - 1 - i))) (i32 i) := by
    intro i
    induction i with
    | zero =>
      intro hi u hu
      rw [wM_laysMonomial_l30]
      try simp only [zl32, zl64, i32_add, i32_sub, i32_mul, i32_neg, i64_add, i64_sub, i64_mul, i64_neg, cv_gi, cv_gw, cv_ga, cv_gl, cv_pi, cv_pw, cv_pa, cv_pl, zf_S, zf_i, zf_l, mz1, mz2, mz3, mz4, zr_ii, zr_iw, zr_ia, zr_il, zr_wi, zr_ww, zr_wa, zr_wl, zr_ai, zr_aw, zr_aa, zr_al, zr_li, zr_lw, zr_la, zr_ll, zw_ii, zw_ww, zw_aa, zw_ll, reduceIte, Nat.reduceEqDiff, if_true, if_false]
      try simp (disch := omega) only [zi9, zi7, zi40, zi360, zikj, zijd, zi9o, zi7o, zip1, zip, zim1, i32_natN, ziL, zi_0, zi_1]
      repeat' (first | (exfalso; omega) | (with_reducible refine zb_in ?_ ?_ ?_ ?_; omega; omega; omega) | (with_reducible refine zb_le ?_ ?_ ?_ ?_ (fun _ => ?_) (fun _ => ?_); omega; omega; omega; omega) | (with_reducible refine zb_lt ?_ ?_ ?_ ?_ (fun _ => ?_) (fun _ => ?_); omega; omega; omega; omega) | (with_reducible refine zb_eq ?_ ?_ ?_ ?_ (fun _ => ?_) (fun _ => ?_); omega; omega; omega; omega) | (with_reducible refine zb_leL ?_ ?_ ?_ ?_ (fun _ => ?_) (fun _ => ?_); omega; omega; omega; omega) | (with_reducible refine zb_ltL ?_ ?_ ?_ ?_ (fun _ => ?_) (fun _ => ?_); omega; omega; omega; omega) | (with_reducible refine zb_eqL ?_ ?_ ?_ ?_ (fun _ => ?_) (fun _ => ?_); omega; omega; omega; omega) | (with_reducible refine zb_nz ?_ ?_ ?_ ?_; omega; omega; omega) | (with_reducible refine zb_nzL ?_ ?_ ?_ ?_; omega; omega; omega) | with_reducible refine zb_ite ?_ | with_reducible refine zb_iteL ?_ | ((with_reducible intro y hy); subst hy; try simp only [zl32, zl64, i32_add, i32_sub, i32_mul, i32_neg, i64_add, i64_sub, i64_mul, i64_neg, cv_gi, cv_gw, cv_ga, cv_gl, cv_pi, cv_pw, cv_pa, cv_pl, zf_S, zf_i, zf_l, mz1, mz2, mz3, mz4, zr_ii, zr_iw, zr_ia, zr_il, zr_wi, zr_ww, zr_wa, zr_wl, zr_ai, zr_aw, zr_aa, zr_al, zr_li, zr_lw, zr_la, zr_ll, zw_ii, zw_ww, zw_aa, zw_ll, reduceIte, Nat.reduceEqDiff, if_true, if_false]) | with_reducible refine zb_o1 ?_ | with_reducible refine zb_o2 ?_ | with_reducible refine zb_o3 ?_ | with_reducible refine zb_o4 ?_ | with_reducible refine zb_tr ?_ | exact trivial | with_reducible refine zb_T ?_ | with_reducible refine zb_sp ?_ ?_)
      rw [hu, zr_aa, if_pos rfl, zw_aa]
      have e : zup (zov 7 (fun q => if q < zpL pa ∧ zpL pa - 1 - (zpL pa - 1 - 0) < q then zvm pa v q else 0) (tga t 55)) 0 (zvn pa v (zpL pa - 1 - 0)) = zov 7 (zvm pa v) (tga t 55) := by
        funext q
        unfold zup zov
        dsimp only
        by_cases c : q = 0
        · rw [if_pos c, if_pos (by omega), Nat.sub_zero, c]
          unfold zvm
          rw [if_pos rfl]
        · rw [if_neg c]
          by_cases c2 : q < 7
          · rw [if_pos c2, if_pos c2]
            by_cases c3 : q < zpL pa
            · rw [if_pos (by omega)]
            · rw [if_neg (by omega)]
              unfold zvm
              rw [if_neg c, if_neg c3]
          · rw [if_neg c2, if_neg c2]
      rw [e]
      exact h
    | succ i ih =>
      intro hi u hu
      have hR := hv.R (k := i + 1) (by omega) (by omega)
      have hS := hv.2.2.2.2.1 (i + 1) (by omega) (by omega)
      have a3 := hH.2.2 (i + 1) (by omega) (by omega)
      have nb := zvn_bd hv hw h1 h2 (zpL pa - 1 - (i + 1)) (by omega)
      have ht := zft_ok (n := zvn pa v (zpL pa - 1 - (i + 1))) (hw (i + 1) (by omega) (by omega)).1
      have hu50 : tga u 50 = tga t 50 := by rw [hu]; rfl
      have hu52 : tga u 52 = tga t 52 := by rw [hu]; rfl
      rw [wM_laysMonomial_l30]
      try simp only [zl32, zl64, i32_add, i32_sub, i32_mul, i32_neg, i64_add, i64_sub, i64_mul, i64_neg, cv_gi, cv_gw, cv_ga, cv_gl, cv_pi, cv_pw, cv_pa, cv_pl, zf_S, zf_i, zf_l, mz1, mz2, mz3, mz4]
      repeat' (first | (exfalso; omega) | (with_reducible refine zb_in ?_ ?_ ?_ ?_; omega; omega; omega) | (with_reducible refine zb_le ?_ ?_ ?_ ?_ (fun _ => ?_) (fun _ => ?_); omega; omega; omega; omega) | (with_reducible refine zb_lt ?_ ?_ ?_ ?_ (fun _ => ?_) (fun _ => ?_); omega; omega; omega; omega) | (with_reducible refine zb_eq ?_ ?_ ?_ ?_ (fun _ => ?_) (fun _ => ?_); omega; omega; omega; omega) | (with_reducible refine zb_leL ?_ ?_ ?_ ?_ (fun _ => ?_) (fun _ => ?_); omega; omega; omega; omega) | (with_reducible refine zb_ltL ?_ ?_ ?_ ?_ (fun _ => ?_) (fun _ => ?_); omega; omega; omega; omega) | (with_reducible refine zb_eqL ?_ ?_ ?_ ?_ (fun _ => ?_) (fun _ => ?_); omega; omega; omega; omega) | (with_reducible refine zb_nz ?_ ?_ ?_ ?_; omega; omega; omega) | (with_reducible refine zb_nzL ?_ ?_ ?_ ?_; omega; omega; omega) | with_reducible refine zb_ite ?_ | with_reducible refine zb_iteL ?_ | ((with_reducible intro y hy); subst hy; try simp only [zl32, zl64, i32_add, i32_sub, i32_mul, i32_neg, i64_add, i64_sub, i64_mul, i64_neg, cv_gi, cv_gw, cv_ga, cv_gl, cv_pi, cv_pw, cv_pa, cv_pl, zf_S, zf_i, zf_l, mz1, mz2, mz3, mz4, zr_ii, zr_iw, zr_ia, zr_il, zr_wi, zr_ww, zr_wa, zr_wl, zr_ai, zr_aw, zr_aa, zr_al, zr_li, zr_lw, zr_la, zr_ll, zw_ii, zw_ww, zw_aa, zw_ll, reduceIte, Nat.reduceEqDiff, if_true, if_false]) | with_reducible refine zb_o1 ?_ | with_reducible refine zb_o2 ?_ | with_reducible refine zb_o3 ?_ | with_reducible refine zb_o4 ?_ | with_reducible refine zb_tr ?_ | exact trivial | with_reducible refine zb_T ?_ | with_reducible refine zb_sp ?_ ?_)
      have ihe := ih (by omega) _ rfl
      have hvn : zvn pa v (zpL pa - 1 - i) = (zvn pa v (zpL pa - 1 - (i + 1)) - zft (zvn pa v (zpL pa - 1 - (i + 1))) (zpS pa (i + 1)) (zpR pa (i + 1)) * zpS pa (i + 1)) / zpR pa (i + 1) := by
        rw [show zpL pa - 1 - i = (zpL pa - 1 - (i + 1)) + 1 by omega]
        conv => lhs; unfold zvn
        rw [show zpL pa - 1 - (zpL pa - 1 - (i + 1)) = i + 1 by omega]
      have hvm : zvm pa v (i + 1) = zft (zvn pa v (zpL pa - 1 - (i + 1))) (zpS pa (i + 1)) (zpR pa (i + 1)) := by
        unfold zvm
        rw [if_neg (by omega), if_pos (by omega)]
      revert hvn hvm nb ht
      generalize zvn pa v (zpL pa - 1 - (i + 1)) = n
      generalize hS' : zpS pa (i + 1) = S at *
      generalize hR' : zpR pa (i + 1) = R at *
      intro nb ht hvn hvm
      -- the powers are sought
      have F : ∀ k x : Nat, (∃ q, x ≤ q ∧ q < x + k ∧ (n - q * S) % R = 0) → x + k = R → zfnd n S R k x = zft n S R → wM_laysMonomial_l38 (fun z z2 z3 => wM_laysMonomial_l30 Q (i + 1) z z2 z3) Q (cv u) (i32 n) (i32 (i + 1 : Nat)) k (i32 x) := by
        intro k
        induction k with
        | zero => intro x ⟨q, q1, q2, _⟩; omega
        | succ k ihk =>
          intro x hx hk hf
          have bx1 : 0 ≤ (x : Int) * S := Int.mul_nonneg (by omega) hS.1
          have bx2 : (x : Int) * S ≤ 3 * 1728 := Int.mul_le_mul (by omega) hS.2 hS.1 (by omega)
          rw [wM_laysMonomial_l38]
          try simp only [zl32, zl64, i32_add, i32_sub, i32_mul, i32_neg, i64_add, i64_sub, i64_mul, i64_neg, cv_gi, cv_gw, cv_ga, cv_gl, cv_pi, cv_pw, cv_pa, cv_pl, zf_S, zf_i, zf_l, mz1, mz2, mz3, mz4, zr_ii, zr_iw, zr_ia, zr_il, zr_wi, zr_ww, zr_wa, zr_wl, zr_ai, zr_aw, zr_aa, zr_al, zr_li, zr_lw, zr_la, zr_ll, zw_ii, zw_ww, zw_aa, zw_ll, reduceIte, Nat.reduceEqDiff, if_true, if_false]
          try simp (disch := omega) only [zi9, zi7, zi40, zi360, zikj, zijd, zi9o, zi7o, zip1, zip, zim1, i32_natN, ziL, zi_0, zi_1]
          rw [hu50, hu52, a3.1, a3.2.1]
          repeat' (first | (exfalso; omega) | (with_reducible refine zb_in ?_ ?_ ?_ ?_; omega; omega; omega) | (with_reducible refine zb_le ?_ ?_ ?_ ?_ (fun _ => ?_) (fun _ => ?_); omega; omega; omega; omega) | (with_reducible refine zb_lt ?_ ?_ ?_ ?_ (fun _ => ?_) (fun _ => ?_); omega; omega; omega; omega) | (with_reducible refine zb_eq ?_ ?_ ?_ ?_ (fun _ => ?_) (fun _ => ?_); omega; omega; omega; omega) | (with_reducible refine zb_leL ?_ ?_ ?_ ?_ (fun _ => ?_) (fun _ => ?_); omega; omega; omega; omega) | (with_reducible refine zb_ltL ?_ ?_ ?_ ?_ (fun _ => ?_) (fun _ => ?_); omega; omega; omega; omega) | (with_reducible refine zb_eqL ?_ ?_ ?_ ?_ (fun _ => ?_) (fun _ => ?_); omega; omega; omega; omega) | (with_reducible refine zb_nz ?_ ?_ ?_ ?_; omega; omega; omega) | (with_reducible refine zb_nzL ?_ ?_ ?_ ?_; omega; omega; omega) | with_reducible refine zb_ite ?_ | with_reducible refine zb_iteL ?_ | ((with_reducible intro y hy); subst hy; try simp only [zl32, zl64, i32_add, i32_sub, i32_mul, i32_neg, i64_add, i64_sub, i64_mul, i64_neg, cv_gi, cv_gw, cv_ga, cv_gl, cv_pi, cv_pw, cv_pa, cv_pl, zf_S, zf_i, zf_l, mz1, mz2, mz3, mz4, zr_ii, zr_iw, zr_ia, zr_il, zr_wi, zr_ww, zr_wa, zr_wl, zr_ai, zr_aw, zr_aa, zr_al, zr_li, zr_lw, zr_la, zr_ll, zw_ii, zw_ww, zw_aa, zw_ll, reduceIte, Nat.reduceEqDiff, if_true, if_false]) | with_reducible refine zb_o1 ?_ | with_reducible refine zb_o2 ?_ | with_reducible refine zb_o3 ?_ | with_reducible refine zb_o4 ?_ | with_reducible refine zb_tr ?_ | exact trivial | with_reducible refine zb_T ?_ | with_reducible refine zb_sp ?_ ?_)
          rw [i32_div (by omega) (by omega) (by omega) (by omega)]
          try simp only [zl32, zl64, i32_add, i32_sub, i32_mul, i32_neg, i64_add, i64_sub, i64_mul, i64_neg, cv_gi, cv_gw, cv_ga, cv_gl, cv_pi, cv_pw, cv_pa, cv_pl, zf_S, zf_i, zf_l, mz1, mz2, mz3, mz4, zr_ii, zr_iw, zr_ia, zr_il, zr_wi, zr_ww, zr_wa, zr_wl, zr_ai, zr_aw, zr_aa, zr_al, zr_li, zr_lw, zr_la, zr_ll, zw_ii, zw_ww, zw_aa, zw_ll, reduceIte, Nat.reduceEqDiff, if_true, if_false]
          simp only [ze_tmod]
          have hm := (ze_mod (n - (x : Int) * S) R (by omega)).2.2
          repeat' (first | (exfalso; omega) | (with_reducible refine zb_in ?_ ?_ ?_ ?_; omega; omega; omega) | (with_reducible refine zb_le ?_ ?_ ?_ ?_ (fun _ => ?_) (fun _ => ?_); omega; omega; omega; omega) | (with_reducible refine zb_lt ?_ ?_ ?_ ?_ (fun _ => ?_) (fun _ => ?_); omega; omega; omega; omega) | (with_reducible refine zb_eq ?_ ?_ ?_ ?_ (fun _ => ?_) (fun _ => ?_); omega; omega; omega; omega) | (with_reducible refine zb_leL ?_ ?_ ?_ ?_ (fun _ => ?_) (fun _ => ?_); omega; omega; omega; omega) | (with_reducible refine zb_ltL ?_ ?_ ?_ ?_ (fun _ => ?_) (fun _ => ?_); omega; omega; omega; omega) | (with_reducible refine zb_eqL ?_ ?_ ?_ ?_ (fun _ => ?_) (fun _ => ?_); omega; omega; omega; omega) | (with_reducible refine zb_nz ?_ ?_ ?_ ?_; omega; omega; omega) | (with_reducible refine zb_nzL ?_ ?_ ?_ ?_; omega; omega; omega) | with_reducible refine zb_ite ?_ | with_reducible refine zb_iteL ?_ | ((with_reducible intro y hy); subst hy; try simp only [zl32, zl64, i32_add, i32_sub, i32_mul, i32_neg, i64_add, i64_sub, i64_mul, i64_neg, cv_gi, cv_gw, cv_ga, cv_gl, cv_pi, cv_pw, cv_pa, cv_pl, zf_S, zf_i, zf_l, mz1, mz2, mz3, mz4, zr_ii, zr_iw, zr_ia, zr_il, zr_wi, zr_ww, zr_wa, zr_wl, zr_ai, zr_aw, zr_aa, zr_al, zr_li, zr_lw, zr_la, zr_ll, zw_ii, zw_ww, zw_aa, zw_ll, reduceIte, Nat.reduceEqDiff, if_true, if_false]) | with_reducible refine zb_o1 ?_ | with_reducible refine zb_o2 ?_ | with_reducible refine zb_o3 ?_ | with_reducible refine zb_o4 ?_ | with_reducible refine zb_tr ?_ | exact trivial | with_reducible refine zb_T ?_ | with_reducible refine zb_sp ?_ ?_)
          · have hz : (n - (x : Int) * S) % R = 0 := ze_tm0.mp (by assumption)
            unfold zfnd at hf
            rw [if_pos hz] at hf
            rw [ze_tde hz, hf, ← hvn, show ((i + 1 : Nat) : Int) + -1 = (i : Int) by omega]
            have e : tsa u 55 (zup (tga u 55) (i + 1) (zft n S R)) = tsa t 55 (zov 7 (fun q => if q < zpL pa ∧ zpL pa - 1 - (zpL pa - 1 - i) < q then zvm pa v q else 0) (tga t 55)) := by
              rw [hu, zw_aa, zr_aa, if_pos rfl]
              congr 1
              funext q
              unfold zup zov
              dsimp only
              by_cases c : q = i + 1
              · rw [if_pos c, if_pos (by omega), if_pos (by omega), c, hvm]
              · rw [if_neg c]
                by_cases c2 : q < 7
                · rw [if_pos c2, if_pos c2]
                  by_cases c3 : q < zpL pa ∧ zpL pa - 1 - (zpL pa - 1 - i) < q
                  · rw [if_pos c3, if_pos (by omega)]
                  · rw [if_neg c3, if_neg (by omega)]
                · rw [if_neg c2, if_neg c2]
            rw [e]
            exact ihe
          · have hz : ¬ (n - (x : Int) * S) % R = 0 := fun q => (by assumption : ¬ (n - (x : Int) * S).tmod R = 0) (ze_tm0.mpr q)
            unfold zfnd at hf
            rw [if_neg hz] at hf
            obtain ⟨q, q1, q2, q3⟩ := hx
            have : q ≠ x := fun e => hz (e ▸ q3)
            exact ihk (x + 1) ⟨q, by omega, by omega, q3⟩ (by omega) hf
      refine ⟨R, ?_⟩
      exact F R 0 ⟨zft n S R, by omega, by omega, ht.2⟩ (by omega) rfl
  have S : ∀ n k : Nat, k + n = 7 → wM_laysMonomial_l4 Q (i32 v) (n + 1) (cv (tsa t 55 (zov k (fun _ => 0) (tga t 55)))) (i32 k) := by
    intro n
    induction n with
    | zero =>
      intro k hk
      have hk : k = 7 := by omega
      subst hk
      rw [wM_laysMonomial_l4]
      try simp only [zl32, zl64, i32_add, i32_sub, i32_mul, i32_neg, i64_add, i64_sub, i64_mul, i64_neg, cv_gi, cv_gw, cv_ga, cv_gl, cv_pi, cv_pw, cv_pa, cv_pl, zf_S, zf_i, zf_l, mz1, mz2, mz3, mz4, zr_ii, zr_iw, zr_ia, zr_il, zr_wi, zr_ww, zr_wa, zr_wl, zr_ai, zr_aw, zr_aa, zr_al, zr_li, zr_lw, zr_la, zr_ll, zw_ii, zw_ww, zw_aa, zw_ll, reduceIte, Nat.reduceEqDiff, if_true, if_false]
      rw [h49]
      repeat' (first | (exfalso; omega) | (with_reducible refine zb_in ?_ ?_ ?_ ?_; omega; omega; omega) | (with_reducible refine zb_le ?_ ?_ ?_ ?_ (fun _ => ?_) (fun _ => ?_); omega; omega; omega; omega) | (with_reducible refine zb_lt ?_ ?_ ?_ ?_ (fun _ => ?_) (fun _ => ?_); omega; omega; omega; omega) | (with_reducible refine zb_eq ?_ ?_ ?_ ?_ (fun _ => ?_) (fun _ => ?_); omega; omega; omega; omega) | (with_reducible refine zb_leL ?_ ?_ ?_ ?_ (fun _ => ?_) (fun _ => ?_); omega; omega; omega; omega) | (with_reducible refine zb_ltL ?_ ?_ ?_ ?_ (fun _ => ?_) (fun _ => ?_); omega; omega; omega; omega) | (with_reducible refine zb_eqL ?_ ?_ ?_ ?_ (fun _ => ?_) (fun _ => ?_); omega; omega; omega; omega) | (with_reducible refine zb_nz ?_ ?_ ?_ ?_; omega; omega; omega) | (with_reducible refine zb_nzL ?_ ?_ ?_ ?_; omega; omega; omega) | with_reducible refine zb_ite ?_ | with_reducible refine zb_iteL ?_ | ((with_reducible intro y hy); subst hy; try simp only [zl32, zl64, i32_add, i32_sub, i32_mul, i32_neg, i64_add, i64_sub, i64_mul, i64_neg, cv_gi, cv_gw, cv_ga, cv_gl, cv_pi, cv_pw, cv_pa, cv_pl, zf_S, zf_i, zf_l, mz1, mz2, mz3, mz4, zr_ii, zr_iw, zr_ia, zr_il, zr_wi, zr_ww, zr_wa, zr_wl, zr_ai, zr_aw, zr_aa, zr_al, zr_li, zr_lw, zr_la, zr_ll, zw_ii, zw_ww, zw_aa, zw_ll, reduceIte, Nat.reduceEqDiff, if_true, if_false]) | with_reducible refine zb_o1 ?_ | with_reducible refine zb_o2 ?_ | with_reducible refine zb_o3 ?_ | with_reducible refine zb_o4 ?_ | with_reducible refine zb_tr ?_ | exact trivial | with_reducible refine zb_T ?_ | with_reducible refine zb_sp ?_ ?_)
      have e := Z (zpL pa - 1) (by omega) (tsa t 55 (zov 7 (fun _ => 0) (tga t 55))) (by
        congr 2
        funext q
        rw [if_neg (by omega)])
      rw [Nat.sub_self, show zvn pa v 0 = v from rfl] at e
      rw [show ((zpL pa : Int) - 1) = ((zpL pa - 1 : Nat) : Int) by omega]
      exact ⟨_, e⟩
    | succ n ih =>
      intro k hk
      have e := ih (k + 1) (by omega)
      rw [← zov_s] at e
      rw [wM_laysMonomial_l4]
      try simp only [zl32, zl64, i32_add, i32_sub, i32_mul, i32_neg, i64_add, i64_sub, i64_mul, i64_neg, cv_gi, cv_gw, cv_ga, cv_gl, cv_pi, cv_pw, cv_pa, cv_pl, zf_S, zf_i, zf_l, mz1, mz2, mz3, mz4, zr_ii, zr_iw, zr_ia, zr_il, zr_wi, zr_ww, zr_wa, zr_wl, zr_ai, zr_aw, zr_aa, zr_al, zr_li, zr_lw, zr_la, zr_ll, zw_ii, zw_ww, zw_aa, zw_ll, reduceIte, Nat.reduceEqDiff, if_true, if_false]
      try simp (disch := omega) only [zi9, zi7, zi40, zi360, zikj, zijd, zi9o, zi7o, zip1, zip, zim1, i32_natN, ziL, zi_0, zi_1]
      repeat' (first | (exfalso; omega) | (with_reducible refine zb_in ?_ ?_ ?_ ?_; omega; omega; omega) | (with_reducible refine zb_le ?_ ?_ ?_ ?_ (fun _ => ?_) (fun _ => ?_); omega; omega; omega; omega) | (with_reducible refine zb_lt ?_ ?_ ?_ ?_ (fun _ => ?_) (fun _ => ?_); omega; omega; omega; omega) | (with_reducible refine zb_eq ?_ ?_ ?_ ?_ (fun _ => ?_) (fun _ => ?_); omega; omega; omega; omega) | (with_reducible refine zb_leL ?_ ?_ ?_ ?_ (fun _ => ?_) (fun _ => ?_); omega; omega; omega; omega) | (with_reducible refine zb_ltL ?_ ?_ ?_ ?_ (fun _ => ?_) (fun _ => ?_); omega; omega; omega; omega) | (with_reducible refine zb_eqL ?_ ?_ ?_ ?_ (fun _ => ?_) (fun _ => ?_); omega; omega; omega; omega) | (with_reducible refine zb_nz ?_ ?_ ?_ ?_; omega; omega; omega) | (with_reducible refine zb_nzL ?_ ?_ ?_ ?_; omega; omega; omega) | with_reducible refine zb_ite ?_ | with_reducible refine zb_iteL ?_ | ((with_reducible intro y hy); subst hy; try simp only [zl32, zl64, i32_add, i32_sub, i32_mul, i32_neg, i64_add, i64_sub, i64_mul, i64_neg, cv_gi, cv_gw, cv_ga, cv_gl, cv_pi, cv_pw, cv_pa, cv_pl, zf_S, zf_i, zf_l, mz1, mz2, mz3, mz4, zr_ii, zr_iw, zr_ia, zr_il, zr_wi, zr_ww, zr_wa, zr_wl, zr_ai, zr_aw, zr_aa, zr_al, zr_li, zr_lw, zr_la, zr_ll, zw_ii, zw_ww, zw_aa, zw_ll, reduceIte, Nat.reduceEqDiff, if_true, if_false]) | with_reducible refine zb_o1 ?_ | with_reducible refine zb_o2 ?_ | with_reducible refine zb_o3 ?_ | with_reducible refine zb_o4 ?_ | with_reducible refine zb_tr ?_ | exact trivial | with_reducible refine zb_T ?_ | with_reducible refine zb_sp ?_ ?_)
      exact e
  unfold wM_laysMonomial
  try simp only [zl32, zl64, i32_add, i32_sub, i32_mul, i32_neg, i64_add, i64_sub, i64_mul, i64_neg, cv_gi, cv_gw, cv_ga, cv_gl, cv_pi, cv_pw, cv_pa, cv_pl, zf_S, zf_i, zf_l, mz1, mz2, mz3, mz4]
  have e := S 7 0 rfl
  rw [zov_0, zw_a0] at e
  exact ⟨8, e⟩
