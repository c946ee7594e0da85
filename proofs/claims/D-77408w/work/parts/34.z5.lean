/-! PURE 5: factors over residues: what both sides compute; the model's methods -/
set_option maxRecDepth 100000
def zov (n : Nat) (f g : Nat → Int) : Nat → Int := fun q => if q < n then f q else g q
theorem zov_0 (f g : Nat → Int) : zov 0 f g = g := by
  funext q
  unfold zov
  rw [if_neg (by omega)]
theorem zov_s (n : Nat) (f g : Nat → Int) : zup (zov n f g) n (f n) = zov (n + 1) f g := by
  funext q
  unfold zup zov
  by_cases h : q = n
  · rw [if_pos h, if_pos (by omega), h]
  · rw [if_neg h]
    by_cases h2 : q < n
    · rw [if_pos h2, if_pos (by omega)]
    · rw [if_neg h2, if_neg (by omega)]
/-- n entries from a base on -/
def zwr (b n : Nat) (f g : Nat → Int) : Nat → Int := fun q => if b ≤ q ∧ q < b + n then f (q - b) else g q
theorem zwr_0 (b : Nat) (f g : Nat → Int) : zwr b 0 f g = g := by
  funext q
  unfold zwr
  rw [if_neg (by omega)]
theorem zwr_s (b n : Nat) (f g : Nat → Int) : zup (zwr b n f g) (b + n) (f n) = zwr b (n + 1) f g := by
  funext q
  unfold zup zwr
  by_cases c : q = b + n
  · rw [if_pos c, if_pos (by omega), show q - b = n by omega]
  · rw [if_neg c]
    by_cases c2 : b ≤ q ∧ q < b + n
    · rw [if_pos c2, if_pos (by omega)]
    · rw [if_neg c2, if_neg (by omega)]
theorem zwr_at {b n : Nat} {f g : Nat → Int} {k : Nat} (hk : k < n) : zwr b n f g (b + k) = f k := by
  unfold zwr
  rw [if_pos (by omega), show b + k - b = k by omega]
theorem zwr_ne {b n : Nat} {f g : Nat → Int} {q : Nat} (h : q < b ∨ b + n ≤ q) : zwr b n f g q = g q := by
  unfold zwr
  rw [if_neg (by omega)]
def ztrial (p : Int) (code d : Nat) : Nat → Int := fun q => if q < d then ((code : Int) / p ^ q) % p else if q = d then 1 else 0
def znl (p : Int) (g : Nat → Int) (d L : Nat) (f : Nat → Int) : Nat → Int := fun k => if k ≤ L then (if k + d ≤ L then zdvw p g d 0 (L + 1) f (k + d) else 0) else f k
def zdiv (p : Int) (g : Nat → Int) (d L : Nat) (f : Nat → Int) : Prop := d ≤ L ∧ ∀ k, k < d → zdvw p g d 0 (L + 1) f k = 0
noncomputable def zTk (p : Int) (g : Nat → Int) (d : Nat) : Nat → Nat → (Nat → Int) → Nat → Nat × (Nat → Int) × Nat
  | 0, L, f, tm => (L, f, tm)
  | n + 1, L, f, tm => @ite _ (zdiv p g d L f) (Classical.propDecidable _) (zTk p g d n (L - d) (znl p g d L f) (tm + 1)) (L, f, tm)
abbrev zF : Type := Nat × Nat × (Nat → Int)
noncomputable def zCd (p : Int) (d : Nat) : Nat → Nat → Nat → (Nat → Int) → List zF → Nat × (Nat → Int) × List zF
  | 0, _, L, f, fs => (L, f, fs)
  | n + 1, code, L, f, fs => if L < d then (L, f, fs) else zCd p d n (code + 1) (zTk p (ztrial p code d) d 9 L f 0).1 (zTk p (ztrial p code d) d 9 L f 0).2.1 (if 0 < (zTk p (ztrial p code d) d 9 L f 0).2.2 then fs ++ [(d, (zTk p (ztrial p code d) d 9 L f 0).2.2, ztrial p code d)] else fs)
noncomputable def zDg (p : Int) : Nat → Nat → Nat → (Nat → Int) → List zF → List zF
  | 0, _, _, _, fs => fs
  | n + 1, d, L, f, fs => if L < 2 * d then (if L = 0 then fs else fs ++ [(L, 1, fun k => if k ≤ L then f k else 0)]) else zDg p n (d + 1) (zCd p d (p ^ d).toNat 0 L f fs).1 (zCd p d (p ^ d).toNat 0 L f fs).2.1 (zCd p d (p ^ d).toNat 0 L f fs).2.2
def zinv (p v : Int) : Int := if 1 * v % p = 1 then 1 else if 2 * v % p = 1 then 2 else if 3 * v % p = 1 then 3 else if 4 * v % p = 1 then 4 else if 5 * v % p = 1 then 5 else 6
def zmnc (p : Int) (L : Nat) (f : Nat → Int) : Nat → Int := fun k => if k ≤ L then f k * zinv p (f L) % p else f k
noncomputable def zFc (p : Int) (f : Nat → Int) : List zF := zDg p 5 1 (degN f 9).toNat (zmnc p (degN f 9).toNat f) []
/-- what the lists of factors say -/
def zFA (t : tS) (fs : List zF) : Prop := tgi t 12 = (fs.length : Int) ∧ ∀ (i : Nat) (x : zF), fs[i]? = some x → tga t 13 i = (x.1 : Int) ∧ tga t 14 i = (x.2.1 : Int) ∧ ∀ k, k < 9 → tga t 15 (9 * i + k) = x.2.2 k
theorem zinv_ok {p v : Int} (hp : p = 2 ∨ p = 3 ∨ p = 5 ∨ p = 7) (h1 : 1 ≤ v) (h2 : v < p) : 1 ≤ zinv p v ∧ zinv p v < p ∧ zinv p v * v % p = 1 := by
  have : v = 1 ∨ v = 2 ∨ v = 3 ∨ v = 4 ∨ v = 5 ∨ v = 6 := by omega
  rcases hp with rfl | rfl | rfl | rfl <;> rcases this with rfl | rfl | rfl | rfl | rfl | rfl <;> first | omega | decide
theorem zPR.pr {t : tS} (h : zPR t) : tgi t 0 = 2 ∨ tgi t 0 = 3 ∨ tgi t 0 = 5 ∨ tgi t 0 = 7 := by
  rcases h with h | h | h | h <;> omega
theorem sM_inverse (t : tS) (v : Int) (hP : zPR t) (h1 : 1 ≤ v) (h2 : v < tgi t 0) (Q : Int32 → Prop) (h : Q (i32 (zinv (tgi t 0) v))) : wM_inverse (cv t) (i32 v) Q := by
  have hp := hP.p
  have hr := zinv_ok hP.pr h1 h2
  revert h hr
  generalize hz : zinv (tgi t 0) v = z
  intro h hr
  have S : ∀ (n : Nat) (r : Int), 1 ≤ r → r ≤ 6 → (∀ q, 1 ≤ q → q < r → ¬ q * v % tgi t 0 = 1) → r + n = 7 → wM_inverse_l2 Q (cv t) (i32 v) n (i32 r) := by
    intro n
    induction n with
    | zero => intro r _ _ _ e; omega
    | succ n ih =>
      intro r a b c e
      have hb : 0 ≤ r * v ∧ r * v ≤ 42 := ⟨Int.mul_nonneg (by omega) (by omega), by
        have := Int.mul_le_mul (a := r) (b := v) (c := 6) (d := 7) b (by omega) (by omega) (by omega)
        omega⟩
      rw [wM_inverse_l2]
      try simp only [zl32, zl64, i32_add, i32_sub, i32_mul, i32_neg, i64_add, i64_sub, i64_mul, i64_neg, cv_gi, cv_gw, cv_ga, cv_gl, cv_pi, cv_pw, cv_pa, cv_pl, zf_S, zf_i, zf_l, mz1, mz2, mz3, mz4]
      rw [i32_div (by omega) (by omega) (by omega) (by omega)]
      try simp only [zl32, zl64, i32_add, i32_sub, i32_mul, i32_neg, i64_add, i64_sub, i64_mul, i64_neg, cv_gi, cv_gw, cv_ga, cv_gl, cv_pi, cv_pw, cv_pa, cv_pl, zf_S, zf_i, zf_l, mz1, mz2, mz3, mz4]
      simp only [ze_tmod, ze_tmodn hb.1]
      have hm := Int.emod_lt_of_pos (r * v) (b := tgi t 0) (by omega)
      have hm2 := Int.emod_nonneg (r * v) (b := tgi t 0) (by omega)
      repeat' (first | (exfalso; omega) | (with_reducible refine zb_in ?_ ?_ ?_ ?_; omega; omega; omega) | (with_reducible refine zb_le ?_ ?_ ?_ ?_ (fun _ => ?_) (fun _ => ?_); omega; omega; omega; omega) | (with_reducible refine zb_lt ?_ ?_ ?_ ?_ (fun _ => ?_) (fun _ => ?_); omega; omega; omega; omega) | (with_reducible refine zb_eq ?_ ?_ ?_ ?_ (fun _ => ?_) (fun _ => ?_); omega; omega; omega; omega) | (with_reducible refine zb_leL ?_ ?_ ?_ ?_ (fun _ => ?_) (fun _ => ?_); omega; omega; omega; omega) | (with_reducible refine zb_ltL ?_ ?_ ?_ ?_ (fun _ => ?_) (fun _ => ?_); omega; omega; omega; omega) | (with_reducible refine zb_eqL ?_ ?_ ?_ ?_ (fun _ => ?_) (fun _ => ?_); omega; omega; omega; omega) | (with_reducible refine zb_nz ?_ ?_ ?_ ?_; omega; omega; omega) | (with_reducible refine zb_nzL ?_ ?_ ?_ ?_; omega; omega; omega) | with_reducible refine zb_ite ?_ | with_reducible refine zb_iteL ?_ | ((with_reducible intro y hy); subst hy; try simp only [zl32, zl64, i32_add, i32_sub, i32_mul, i32_neg, i64_add, i64_sub, i64_mul, i64_neg, cv_gi, cv_gw, cv_ga, cv_gl, cv_pi, cv_pw, cv_pa, cv_pl, zf_S, zf_i, zf_l, mz1, mz2, mz3, mz4, zr_ii, zr_iw, zr_ia, zr_il, zr_wi, zr_ww, zr_wa, zr_wl, zr_ai, zr_aw, zr_aa, zr_al, zr_li, zr_lw, zr_la, zr_ll, zw_ii, zw_ww, zw_aa, zw_ll, reduceIte, Nat.reduceEqDiff, if_true, if_false]) | with_reducible refine zb_o1 ?_ | with_reducible refine zb_o2 ?_ | with_reducible refine zb_o3 ?_ | with_reducible refine zb_o4 ?_ | with_reducible refine zb_tr ?_ | exact trivial | with_reducible refine zb_T ?_ | with_reducible refine zb_sp ?_ ?_)
      · have : r = z := by
          rw [← hz]
          unfold zinv
          have : r = 1 ∨ r = 2 ∨ r = 3 ∨ r = 4 ∨ r = 5 ∨ r = 6 := by omega
          have c1 := c 1
          have c2 := c 2
          have c3 := c 3
          have c4 := c 4
          have c5 := c 5
          rcases this with rfl | rfl | rfl | rfl | rfl | rfl
          · rw [if_pos (by assumption)]
          · rw [if_neg (c1 (by omega) (by omega)), if_pos (by assumption)]
          · rw [if_neg (c1 (by omega) (by omega)), if_neg (c2 (by omega) (by omega)), if_pos (by assumption)]
          · rw [if_neg (c1 (by omega) (by omega)), if_neg (c2 (by omega) (by omega)), if_neg (c3 (by omega) (by omega)), if_pos (by assumption)]
          · rw [if_neg (c1 (by omega) (by omega)), if_neg (c2 (by omega) (by omega)), if_neg (c3 (by omega) (by omega)), if_neg (c4 (by omega) (by omega)), if_pos (by assumption)]
          · rw [if_neg (c1 (by omega) (by omega)), if_neg (c2 (by omega) (by omega)), if_neg (c3 (by omega) (by omega)), if_neg (c4 (by omega) (by omega)), if_neg (c5 (by omega) (by omega))]
        rw [this]
        exact h
      · have hne : ¬ r * v % tgi t 0 = 1 := by assumption
        have hlt : r < z := by
          rcases Int.lt_trichotomy r z with q | q | q
          · exact q
          · subst q
            exact absurd hr.2.2 hne
          · exact absurd hr.2.2 (c z hr.1 q)
        refine ih (r + 1) (by omega) (by omega) (fun q q1 q2 => ?_) (by omega)
        by_cases hq : q = r
        · rw [hq]; exact hne
        · exact c q q1 (by omega)
  unfold wM_inverse
  try simp only [zl32, zl64, i32_add, i32_sub, i32_mul, i32_neg, i64_add, i64_sub, i64_mul, i64_neg, cv_gi, cv_gw, cv_ga, cv_gl, cv_pi, cv_pw, cv_pa, cv_pl, zf_S, zf_i, zf_l, mz1, mz2, mz3, mz4]
  exact ⟨6, S 6 1 (by omega) (by omega) (fun q q1 q2 => by omega) rfl⟩
theorem sM_measures (t : tS) (Q : mS → Prop) (hr : ∀ k, k < 9 → -2147483648 ≤ tga t 10 k ∧ tga t 10 k < 2147483648) (h : Q (cv (tpi t 11 (degN (tga t 10) 9)))) : wM_measures (cv t) Q := by
  have L : ∀ n k : Nat, k + n = 9 → wM_measures_l7 Q (n + 1) (cv (tpi t 11 (degN (tga t 10) k))) (i32 k) := by
    intro n
    induction n with
    | zero =>
      intro k hk
      have hk : k = 9 := by omega
      subst hk
      rw [wM_measures_l7]
      try simp only [zl32, zl64, i32_add, i32_sub, i32_mul, i32_neg, i64_add, i64_sub, i64_mul, i64_neg, cv_gi, cv_gw, cv_ga, cv_gl, cv_pi, cv_pw, cv_pa, cv_pl, zf_S, zf_i, zf_l, mz1, mz2, mz3, mz4]
      repeat' (first | (exfalso; omega) | (with_reducible refine zb_in ?_ ?_ ?_ ?_; omega; omega; omega) | (with_reducible refine zb_le ?_ ?_ ?_ ?_ (fun _ => ?_) (fun _ => ?_); omega; omega; omega; omega) | (with_reducible refine zb_lt ?_ ?_ ?_ ?_ (fun _ => ?_) (fun _ => ?_); omega; omega; omega; omega) | (with_reducible refine zb_eq ?_ ?_ ?_ ?_ (fun _ => ?_) (fun _ => ?_); omega; omega; omega; omega) | (with_reducible refine zb_leL ?_ ?_ ?_ ?_ (fun _ => ?_) (fun _ => ?_); omega; omega; omega; omega) | (with_reducible refine zb_ltL ?_ ?_ ?_ ?_ (fun _ => ?_) (fun _ => ?_); omega; omega; omega; omega) | (with_reducible refine zb_eqL ?_ ?_ ?_ ?_ (fun _ => ?_) (fun _ => ?_); omega; omega; omega; omega) | (with_reducible refine zb_nz ?_ ?_ ?_ ?_; omega; omega; omega) | (with_reducible refine zb_nzL ?_ ?_ ?_ ?_; omega; omega; omega) | with_reducible refine zb_ite ?_ | with_reducible refine zb_iteL ?_ | ((with_reducible intro y hy); subst hy; try simp only [zl32, zl64, i32_add, i32_sub, i32_mul, i32_neg, i64_add, i64_sub, i64_mul, i64_neg, cv_gi, cv_gw, cv_ga, cv_gl, cv_pi, cv_pw, cv_pa, cv_pl, zf_S, zf_i, zf_l, mz1, mz2, mz3, mz4, zr_ii, zr_iw, zr_ia, zr_il, zr_wi, zr_ww, zr_wa, zr_wl, zr_ai, zr_aw, zr_aa, zr_al, zr_li, zr_lw, zr_la, zr_ll, zw_ii, zw_ww, zw_aa, zw_ll, reduceIte, Nat.reduceEqDiff, if_true, if_false]) | with_reducible refine zb_o1 ?_ | with_reducible refine zb_o2 ?_ | with_reducible refine zb_o3 ?_ | with_reducible refine zb_o4 ?_ | with_reducible refine zb_tr ?_ | exact trivial | with_reducible refine zb_T ?_ | with_reducible refine zb_sp ?_ ?_)
      exact h
    | succ n ih =>
      intro k hk
      have r := hr k (by omega)
      have e := ih (k + 1) (by omega)
      unfold degN at e
      rw [wM_measures_l7]
      try simp only [zl32, zl64, i32_add, i32_sub, i32_mul, i32_neg, i64_add, i64_sub, i64_mul, i64_neg, cv_gi, cv_gw, cv_ga, cv_gl, cv_pi, cv_pw, cv_pa, cv_pl, zf_S, zf_i, zf_l, mz1, mz2, mz3, mz4, zr_ii, zr_iw, zr_ia, zr_il, zr_wi, zr_ww, zr_wa, zr_wl, zr_ai, zr_aw, zr_aa, zr_al, zr_li, zr_lw, zr_la, zr_ll, zw_ii, zw_ww, zw_aa, zw_ll, reduceIte, Nat.reduceEqDiff, if_true, if_false]
      try simp (disch := omega) only [zi9, zi7, zi40, zi360, zikj, zijd, zi9o, zi7o, zip1, zip, zim1, i32_natN, ziL, zi_0, zi_1]
      repeat' (first | (exfalso; omega) | (with_reducible refine zb_in ?_ ?_ ?_ ?_; omega; omega; omega) | (with_reducible refine zb_le ?_ ?_ ?_ ?_ (fun _ => ?_) (fun _ => ?_); omega; omega; omega; omega) | (with_reducible refine zb_lt ?_ ?_ ?_ ?_ (fun _ => ?_) (fun _ => ?_); omega; omega; omega; omega) | (with_reducible refine zb_eq ?_ ?_ ?_ ?_ (fun _ => ?_) (fun _ => ?_); omega; omega; omega; omega) | (with_reducible refine zb_leL ?_ ?_ ?_ ?_ (fun _ => ?_) (fun _ => ?_); omega; omega; omega; omega) | (with_reducible refine zb_ltL ?_ ?_ ?_ ?_ (fun _ => ?_) (fun _ => ?_); omega; omega; omega; omega) | (with_reducible refine zb_eqL ?_ ?_ ?_ ?_ (fun _ => ?_) (fun _ => ?_); omega; omega; omega; omega) | (with_reducible refine zb_nz ?_ ?_ ?_ ?_; omega; omega; omega) | (with_reducible refine zb_nzL ?_ ?_ ?_ ?_; omega; omega; omega) | with_reducible refine zb_ite ?_ | with_reducible refine zb_iteL ?_ | ((with_reducible intro y hy); subst hy; try simp only [zl32, zl64, i32_add, i32_sub, i32_mul, i32_neg, i64_add, i64_sub, i64_mul, i64_neg, cv_gi, cv_gw, cv_ga, cv_gl, cv_pi, cv_pw, cv_pa, cv_pl, zf_S, zf_i, zf_l, mz1, mz2, mz3, mz4, zr_ii, zr_iw, zr_ia, zr_il, zr_wi, zr_ww, zr_wa, zr_wl, zr_ai, zr_aw, zr_aa, zr_al, zr_li, zr_lw, zr_la, zr_ll, zw_ii, zw_ww, zw_aa, zw_ll, reduceIte, Nat.reduceEqDiff, if_true, if_false]) | with_reducible refine zb_o1 ?_ | with_reducible refine zb_o2 ?_ | with_reducible refine zb_o3 ?_ | with_reducible refine zb_o4 ?_ | with_reducible refine zb_tr ?_ | exact trivial | with_reducible refine zb_T ?_ | with_reducible refine zb_sp ?_ ?_)
      · try simp only [zl32, zl64, i32_add, i32_sub, i32_mul, i32_neg, i64_add, i64_sub, i64_mul, i64_neg, cv_gi, cv_gw, cv_ga, cv_gl, cv_pi, cv_pw, cv_pa, cv_pl, zf_S, zf_i, zf_l, mz1, mz2, mz3, mz4, zr_ii, zr_iw, zr_ia, zr_il, zr_wi, zr_ww, zr_wa, zr_wl, zr_ai, zr_aw, zr_aa, zr_al, zr_li, zr_lw, zr_la, zr_ll, zw_ii, zw_ww, zw_aa, zw_ll, reduceIte, Nat.reduceEqDiff, if_true, if_false]
        rw [if_pos (by assumption)] at e
        exact e
      · try simp only [zl32, zl64, i32_add, i32_sub, i32_mul, i32_neg, i64_add, i64_sub, i64_mul, i64_neg, cv_gi, cv_gw, cv_ga, cv_gl, cv_pi, cv_pw, cv_pa, cv_pl, zf_S, zf_i, zf_l, mz1, mz2, mz3, mz4, zr_ii, zr_iw, zr_ia, zr_il, zr_wi, zr_ww, zr_wa, zr_wl, zr_ai, zr_aw, zr_aa, zr_al, zr_li, zr_lw, zr_la, zr_ll, zw_ii, zw_ww, zw_aa, zw_ll, reduceIte, Nat.reduceEqDiff, if_true, if_false]
        rw [if_neg (by assumption)] at e
        exact e
  unfold wM_measures
  try simp only [zl32, zl64, i32_add, i32_sub, i32_mul, i32_neg, i64_add, i64_sub, i64_mul, i64_neg, cv_gi, cv_gw, cv_ga, cv_gl, cv_pi, cv_pw, cv_pa, cv_pl, zf_S, zf_i, zf_l, mz1, mz2, mz3, mz4]
  exact ⟨10, L 9 0 rfl⟩
theorem sM_laysTrial (t : tS) (code d : Nat) (hP : zPR t) (hc : code < 2147483648) (hd : d < 9) (Q : mS → Prop) (h : Q (cv (tsa t 16 (zov 9 (ztrial (tgi t 0) code d) (tga t 16))))) : wM_laysTrial (cv t) (i32 code) (i32 d) Q := by
  have hp := hP.p
  have L : ∀ n k : Nat, k + n = 9 → wM_laysTrial_l5 Q (i32 d) (n + 1) (cv (tsa t 16 (zov k (ztrial (tgi t 0) code d) (tga t 16)))) (i32 ((code : Int) / tgi t 0 ^ k)) (i32 k) := by
    intro n
    induction n with
    | zero =>
      intro k hk
      have hk : k = 9 := by omega
      subst hk
      rw [wM_laysTrial_l5]
      try simp only [zl32, zl64, i32_add, i32_sub, i32_mul, i32_neg, i64_add, i64_sub, i64_mul, i64_neg, cv_gi, cv_gw, cv_ga, cv_gl, cv_pi, cv_pw, cv_pa, cv_pl, zf_S, zf_i, zf_l, mz1, mz2, mz3, mz4]
      repeat' (first | (exfalso; omega) | (with_reducible refine zb_in ?_ ?_ ?_ ?_; omega; omega; omega) | (with_reducible refine zb_le ?_ ?_ ?_ ?_ (fun _ => ?_) (fun _ => ?_); omega; omega; omega; omega) | (with_reducible refine zb_lt ?_ ?_ ?_ ?_ (fun _ => ?_) (fun _ => ?_); omega; omega; omega; omega) | (with_reducible refine zb_eq ?_ ?_ ?_ ?_ (fun _ => ?_) (fun _ => ?_); omega; omega; omega; omega) | (with_reducible refine zb_leL ?_ ?_ ?_ ?_ (fun _ => ?_) (fun _ => ?_); omega; omega; omega; omega) | (with_reducible refine zb_ltL ?_ ?_ ?_ ?_ (fun _ => ?_) (fun _ => ?_); omega; omega; omega; omega) | (with_reducible refine zb_eqL ?_ ?_ ?_ ?_ (fun _ => ?_) (fun _ => ?_); omega; omega; omega; omega) | (with_reducible refine zb_nz ?_ ?_ ?_ ?_; omega; omega; omega) | (with_reducible refine zb_nzL ?_ ?_ ?_ ?_; omega; omega; omega) | with_reducible refine zb_ite ?_ | with_reducible refine zb_iteL ?_ | ((with_reducible intro y hy); subst hy; try simp only [zl32, zl64, i32_add, i32_sub, i32_mul, i32_neg, i64_add, i64_sub, i64_mul, i64_neg, cv_gi, cv_gw, cv_ga, cv_gl, cv_pi, cv_pw, cv_pa, cv_pl, zf_S, zf_i, zf_l, mz1, mz2, mz3, mz4, zr_ii, zr_iw, zr_ia, zr_il, zr_wi, zr_ww, zr_wa, zr_wl, zr_ai, zr_aw, zr_aa, zr_al, zr_li, zr_lw, zr_la, zr_ll, zw_ii, zw_ww, zw_aa, zw_ll, reduceIte, Nat.reduceEqDiff, if_true, if_false]) | with_reducible refine zb_o1 ?_ | with_reducible refine zb_o2 ?_ | with_reducible refine zb_o3 ?_ | with_reducible refine zb_o4 ?_ | with_reducible refine zb_tr ?_ | exact trivial | with_reducible refine zb_T ?_ | with_reducible refine zb_sp ?_ ?_)
      exact h
    | succ n ih =>
      intro k hk
      have e := ih (k + 1) (by omega)
      have hpk : 0 < tgi t 0 ^ k := Int.pow_pos (by omega)
      have b1 : 0 ≤ (code : Int) / tgi t 0 ^ k := Int.ediv_nonneg (by omega) (by omega)
      have b2 : (code : Int) / tgi t 0 ^ k ≤ code := Int.ediv_le_self _ (by omega)
      have e1 : (code : Int) / tgi t 0 ^ k / tgi t 0 = (code : Int) / tgi t 0 ^ (k + 1) := by
        rw [Int.pow_succ, Int.ediv_ediv_of_nonneg (by omega)]
      rw [← e1, ← zov_s] at e
      rw [wM_laysTrial_l5]
      try simp only [zl32, zl64, i32_add, i32_sub, i32_mul, i32_neg, i64_add, i64_sub, i64_mul, i64_neg, cv_gi, cv_gw, cv_ga, cv_gl, cv_pi, cv_pw, cv_pa, cv_pl, zf_S, zf_i, zf_l, mz1, mz2, mz3, mz4, zr_ii, zr_iw, zr_ia, zr_il, zr_wi, zr_ww, zr_wa, zr_wl, zr_ai, zr_aw, zr_aa, zr_al, zr_li, zr_lw, zr_la, zr_ll, zw_ii, zw_ww, zw_aa, zw_ll, reduceIte, Nat.reduceEqDiff, if_true, if_false]
      rw [i32_div (by omega) (by omega) (by omega) (by omega)]
      try simp only [zl32, zl64, i32_add, i32_sub, i32_mul, i32_neg, i64_add, i64_sub, i64_mul, i64_neg, cv_gi, cv_gw, cv_ga, cv_gl, cv_pi, cv_pw, cv_pa, cv_pl, zf_S, zf_i, zf_l, mz1, mz2, mz3, mz4, zr_ii, zr_iw, zr_ia, zr_il, zr_wi, zr_ww, zr_wa, zr_wl, zr_ai, zr_aw, zr_aa, zr_al, zr_li, zr_lw, zr_la, zr_ll, zw_ii, zw_ww, zw_aa, zw_ll, reduceIte, Nat.reduceEqDiff, if_true, if_false]
      simp only [ze_tdivn b1, ze_emodn]
      try simp (disch := omega) only [zi9, zi7, zi40, zi360, zikj, zijd, zi9o, zi7o, zip1, zip, zim1, i32_natN, ziL, zi_0, zi_1]
      unfold ztrial at e
      repeat' (first | (exfalso; omega) | (with_reducible refine zb_in ?_ ?_ ?_ ?_; omega; omega; omega) | (with_reducible refine zb_le ?_ ?_ ?_ ?_ (fun _ => ?_) (fun _ => ?_); omega; omega; omega; omega) | (with_reducible refine zb_lt ?_ ?_ ?_ ?_ (fun _ => ?_) (fun _ => ?_); omega; omega; omega; omega) | (with_reducible refine zb_eq ?_ ?_ ?_ ?_ (fun _ => ?_) (fun _ => ?_); omega; omega; omega; omega) | (with_reducible refine zb_leL ?_ ?_ ?_ ?_ (fun _ => ?_) (fun _ => ?_); omega; omega; omega; omega) | (with_reducible refine zb_ltL ?_ ?_ ?_ ?_ (fun _ => ?_) (fun _ => ?_); omega; omega; omega; omega) | (with_reducible refine zb_eqL ?_ ?_ ?_ ?_ (fun _ => ?_) (fun _ => ?_); omega; omega; omega; omega) | (with_reducible refine zb_nz ?_ ?_ ?_ ?_; omega; omega; omega) | (with_reducible refine zb_nzL ?_ ?_ ?_ ?_; omega; omega; omega) | with_reducible refine zb_ite ?_ | with_reducible refine zb_iteL ?_ | ((with_reducible intro y hy); subst hy; try simp only [zl32, zl64, i32_add, i32_sub, i32_mul, i32_neg, i64_add, i64_sub, i64_mul, i64_neg, cv_gi, cv_gw, cv_ga, cv_gl, cv_pi, cv_pw, cv_pa, cv_pl, zf_S, zf_i, zf_l, mz1, mz2, mz3, mz4, zr_ii, zr_iw, zr_ia, zr_il, zr_wi, zr_ww, zr_wa, zr_wl, zr_ai, zr_aw, zr_aa, zr_al, zr_li, zr_lw, zr_la, zr_ll, zw_ii, zw_ww, zw_aa, zw_ll, reduceIte, Nat.reduceEqDiff, if_true, if_false]) | with_reducible refine zb_o1 ?_ | with_reducible refine zb_o2 ?_ | with_reducible refine zb_o3 ?_ | with_reducible refine zb_o4 ?_ | with_reducible refine zb_tr ?_ | exact trivial | with_reducible refine zb_T ?_ | with_reducible refine zb_sp ?_ ?_)
      · rw [if_neg (by omega), if_pos (by omega)] at e
        try simp (disch := omega) only [zi9, zi7, zi40, zi360, zikj, zijd, zi9o, zi7o, zip1, zip, zim1, i32_natN, ziL, zi_0, zi_1]
        exact e
      · rw [if_neg (by omega), if_neg (by omega)] at e
        try simp (disch := omega) only [zi9, zi7, zi40, zi360, zikj, zijd, zi9o, zi7o, zip1, zip, zim1, i32_natN, ziL, zi_0, zi_1]
        exact e
      · rw [if_pos (by omega)] at e
        try simp (disch := omega) only [zi9, zi7, zi40, zi360, zikj, zijd, zi9o, zi7o, zip1, zip, zim1, i32_natN, ziL, zi_0, zi_1]
        exact e
  unfold wM_laysTrial
  try simp only [zl32, zl64, i32_add, i32_sub, i32_mul, i32_neg, i64_add, i64_sub, i64_mul, i64_neg, cv_gi, cv_gw, cv_ga, cv_gl, cv_pi, cv_pw, cv_pa, cv_pl, zf_S, zf_i, zf_l, mz1, mz2, mz3, mz4]
  have e := L 9 0 rfl
  rw [zov_0, zw_a0, Int.pow_zero, Int.ediv_one] at e
  exact ⟨10, e⟩
