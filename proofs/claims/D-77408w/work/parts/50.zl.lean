/-! PURE 21: products, keys; the model's -/
set_option maxRecDepth 100000
def zcv (M : Int) (f g : Nat → Int) (k : Nat) : Nat → Int
  | 0 => 0
  | n + 1 => (zcv M f g k n + f n * g (k - n)) % M
def zpm (M : Int) (f g : Nat → Int) : Nat → Int := fun k => zcv M f g k (k + 1)
theorem zcv_red {M : Int} (hM : 0 < M) {f g : Nat → Int} {k : Nat} : ∀ n : Nat, 0 ≤ zcv M f g k n ∧ zcv M f g k n < M := by
  intro n
  cases n with
  | zero => exact ⟨Int.le_refl _, hM⟩
  | succ n =>
    unfold zcv
    exact ⟨Int.emod_nonneg _ (by omega), Int.emod_lt_of_pos _ hM⟩
theorem zpm_red {M : Int} (hM : 0 < M) {f g : Nat → Int} : zred M 9 (zpm M f g) := fun _ _ => zcv_red hM _
theorem zcv_congr {M : Int} {f f' g g' : Nat → Int} {k : Nat} (hf : ∀ q, q ≤ k → f q = f' q) (hg : ∀ q, q ≤ k → g q = g' q) : ∀ n : Nat, n ≤ k + 1 → zcv M f g k n = zcv M f' g' k n := by
  intro n
  induction n with
  | zero => intro _; rfl
  | succ n ih =>
    intro hn
    unfold zcv
    rw [ih (by omega), hf n (by omega), hg (k - n) (by omega)]
theorem zpm_congr {M : Int} {f f' g g' : Nat → Int} {k : Nat} (hf : ∀ q, q ≤ k → f q = f' q) (hg : ∀ q, q ≤ k → g q = g' q) : zpm M f g k = zpm M f' g' k := zcv_congr hf hg _ (Nat.le_refl _)
theorem zov_congr {n : Nat} {f f' g : Nat → Int} (h : ∀ q, q < n → f q = f' q) : zov n f g = zov n f' g := by
  funext q
  unfold zov
  by_cases c : q < n
  · rw [if_pos c, if_pos c, h q c]
  · rw [if_neg c, if_neg c]
theorem sM_multiplies (t : tS) (key : Nat) (hk : key + 9 ≤ 369) (hP : zPR t) (hf : zred (tgw t) 9 (tgl t 57)) (hg : zred (tgw t) 9 (zkey t key)) (Q : mS → Prop) (h : Q (cv (tsl t 57 (zov 9 (zpm (tgw t) (tgl t 57) (zkey t key)) (tgl t 57))))) : wM_multiplies (cv t) (i32 key) Q := by
  have hw := hP.w
  have S : ∀ c : Nat, c ≤ 9 → wM_multiplies_l3 Q (i32 key) (c + 1) (cv (tsl t 57 (fun q => if c ≤ q ∧ q < 9 then zpm (tgw t) (tgl t 57) (zkey t key) q else tgl t 57 q))) (i32 ((c : Int) - 1)) := by
    intro c
    induction c with
    | zero =>
      intro _
      rw [wM_multiplies_l3]
      try simp only [zl32, zl64, i32_add, i32_sub, i32_mul, i32_neg, i64_add, i64_sub, i64_mul, i64_neg, cv_gi, cv_gw, cv_ga, cv_gl, cv_pi, cv_pw, cv_pa, cv_pl, zf_S, zf_i, zf_l, mz1, mz2, mz3, mz4]
      repeat' (first | (exfalso; omega) | (with_reducible refine zb_in ?_ ?_ ?_ ?_; omega; omega; omega) | (with_reducible refine zb_le ?_ ?_ ?_ ?_ (fun _ => ?_) (fun _ => ?_); omega; omega; omega; omega) | (with_reducible refine zb_lt ?_ ?_ ?_ ?_ (fun _ => ?_) (fun _ => ?_); omega; omega; omega; omega) | (with_reducible refine zb_eq ?_ ?_ ?_ ?_ (fun _ => ?_) (fun _ => ?_); omega; omega; omega; omega) | (with_reducible refine zb_leL ?_ ?_ ?_ ?_ (fun _ => ?_) (fun _ => ?_); omega; omega; omega; omega) | (with_reducible refine zb_ltL ?_ ?_ ?_ ?_ (fun _ => ?_) (fun _ => ?_); omega; omega; omega; omega) | (with_reducible refine zb_eqL ?_ ?_ ?_ ?_ (fun _ => ?_) (fun _ => ?_); omega; omega; omega; omega) | (with_reducible refine zb_nz ?_ ?_ ?_ ?_; omega; omega; omega) | (with_reducible refine zb_nzL ?_ ?_ ?_ ?_; omega; omega; omega) | with_reducible refine zb_ite ?_ | with_reducible refine zb_iteL ?_ | ((with_reducible intro y hy); subst hy; try simp only [zl32, zl64, i32_add, i32_sub, i32_mul, i32_neg, i64_add, i64_sub, i64_mul, i64_neg, cv_gi, cv_gw, cv_ga, cv_gl, cv_pi, cv_pw, cv_pa, cv_pl, zf_S, zf_i, zf_l, mz1, mz2, mz3, mz4, zr_ii, zr_iw, zr_ia, zr_il, zr_wi, zr_ww, zr_wa, zr_wl, zr_ai, zr_aw, zr_aa, zr_al, zr_li, zr_lw, zr_la, zr_ll, zw_ii, zw_ww, zw_aa, zw_ll, reduceIte, Nat.reduceEqDiff, if_true, if_false]) | with_reducible refine zb_o1 ?_ | with_reducible refine zb_o2 ?_ | with_reducible refine zb_o3 ?_ | with_reducible refine zb_o4 ?_ | with_reducible refine zb_tr ?_ | exact trivial | with_reducible refine zb_T ?_ | with_reducible refine zb_sp ?_ ?_)
      have e : (fun q => if 0 ≤ q ∧ q < 9 then zpm (tgw t) (tgl t 57) (zkey t key) q else tgl t 57 q) = zov 9 (zpm (tgw t) (tgl t 57) (zkey t key)) (tgl t 57) := by
        funext q
        unfold zov
        by_cases c : q < 9
        · rw [if_pos c, if_pos (by omega)]
        · rw [if_neg c, if_neg (by omega)]
      rw [e]
      exact h
    | succ c ih =>
      intro hc
      have ihe := ih (by omega)
      obtain ⟨P, hPd⟩ : ∃ P, P = fun q => if c + 1 ≤ q ∧ q < 9 then zpm (tgw t) (tgl t 57) (zkey t key) q else tgl t 57 q := ⟨_, rfl⟩
      rw [← hPd]
      have hPq : ∀ q, q ≤ c → P q = tgl t 57 q := by
        intro q hq
        rw [hPd]
        dsimp only
        rw [if_neg (by omega)]
      have T : ∀ n j : Nat, j + n = c + 1 → wM_multiplies_l12 (fun z z2 => wM_multiplies_l3 Q (i32 key) (c + 1) z z2) Q (cv (tsl t 57 P)) (i32 key) (i32 c) (n + 1) (i64 (zcv (tgw t) (tgl t 57) (zkey t key) c j)) (i32 j) := by
        intro n
        induction n with
        | zero =>
          intro j hj
          have hj : j = c + 1 := by omega
          subst hj
          rw [wM_multiplies_l12]
          try simp only [zl32, zl64, i32_add, i32_sub, i32_mul, i32_neg, i64_add, i64_sub, i64_mul, i64_neg, cv_gi, cv_gw, cv_ga, cv_gl, cv_pi, cv_pw, cv_pa, cv_pl, zf_S, zf_i, zf_l, mz1, mz2, mz3, mz4, zr_ii, zr_iw, zr_ia, zr_il, zr_wi, zr_ww, zr_wa, zr_wl, zr_ai, zr_aw, zr_aa, zr_al, zr_li, zr_lw, zr_la, zr_ll, zw_ii, zw_ww, zw_aa, zw_ll, reduceIte, Nat.reduceEqDiff, if_true, if_false]
          try simp (disch := omega) only [zi9, zi7, zi40, zi360, zikj, zijd, zi9o, zi7o, zip1, zip, zim1, i32_natN, ziL, zi_0, zi_1]
          repeat' (first | (exfalso; omega) | (with_reducible refine zb_in ?_ ?_ ?_ ?_; omega; omega; omega) | (with_reducible refine zb_le ?_ ?_ ?_ ?_ (fun _ => ?_) (fun _ => ?_); omega; omega; omega; omega) | (with_reducible refine zb_lt ?_ ?_ ?_ ?_ (fun _ => ?_) (fun _ => ?_); omega; omega; omega; omega) | (with_reducible refine zb_eq ?_ ?_ ?_ ?_ (fun _ => ?_) (fun _ => ?_); omega; omega; omega; omega) | (with_reducible refine zb_leL ?_ ?_ ?_ ?_ (fun _ => ?_) (fun _ => ?_); omega; omega; omega; omega) | (with_reducible refine zb_ltL ?_ ?_ ?_ ?_ (fun _ => ?_) (fun _ => ?_); omega; omega; omega; omega) | (with_reducible refine zb_eqL ?_ ?_ ?_ ?_ (fun _ => ?_) (fun _ => ?_); omega; omega; omega; omega) | (with_reducible refine zb_nz ?_ ?_ ?_ ?_; omega; omega; omega) | (with_reducible refine zb_nzL ?_ ?_ ?_ ?_; omega; omega; omega) | with_reducible refine zb_ite ?_ | with_reducible refine zb_iteL ?_ | ((with_reducible intro y hy); subst hy; try simp only [zl32, zl64, i32_add, i32_sub, i32_mul, i32_neg, i64_add, i64_sub, i64_mul, i64_neg, cv_gi, cv_gw, cv_ga, cv_gl, cv_pi, cv_pw, cv_pa, cv_pl, zf_S, zf_i, zf_l, mz1, mz2, mz3, mz4, zr_ii, zr_iw, zr_ia, zr_il, zr_wi, zr_ww, zr_wa, zr_wl, zr_ai, zr_aw, zr_aa, zr_al, zr_li, zr_lw, zr_la, zr_ll, zw_ii, zw_ww, zw_aa, zw_ll, reduceIte, Nat.reduceEqDiff, if_true, if_false]) | with_reducible refine zb_o1 ?_ | with_reducible refine zb_o2 ?_ | with_reducible refine zb_o3 ?_ | with_reducible refine zb_o4 ?_ | with_reducible refine zb_tr ?_ | exact trivial | with_reducible refine zb_T ?_ | with_reducible refine zb_sp ?_ ?_)
          have e : zup P c (zcv (tgw t) (tgl t 57) (zkey t key) c (c + 1)) = fun q => if c ≤ q ∧ q < 9 then zpm (tgw t) (tgl t 57) (zkey t key) q else tgl t 57 q := by
            funext q
            unfold zup
            by_cases c1 : q = c
            · rw [if_pos c1, if_pos (by omega), c1]
              rfl
            · rw [if_neg c1, hPd]
              dsimp only
              by_cases c2 : c + 1 ≤ q ∧ q < 9
              · rw [if_pos c2, if_pos (by omega)]
              · rw [if_neg c2, if_neg (by omega)]
          rw [e, show ((c : Int) + -1) = (c : Int) - 1 by omega]
          exact ihe
        | succ n ihn =>
          intro j hj
          have e := ihn (j + 1) (by omega)
          unfold zcv at e
          have a := zcv_red (M := tgw t) (by omega) (f := tgl t 57) (g := zkey t key) (k := c) j
          have b := hf j (by omega)
          have d := hg (c - j) (by omega)
          have ab := ze_mulb b.1 b.2 d.1 d.2 hw.2
          rw [wM_multiplies_l12]
          try simp only [zl32, zl64, i32_add, i32_sub, i32_mul, i32_neg, i64_add, i64_sub, i64_mul, i64_neg, cv_gi, cv_gw, cv_ga, cv_gl, cv_pi, cv_pw, cv_pa, cv_pl, zf_S, zf_i, zf_l, mz1, mz2, mz3, mz4, zr_ii, zr_iw, zr_ia, zr_il, zr_wi, zr_ww, zr_wa, zr_wl, zr_ai, zr_aw, zr_aa, zr_al, zr_li, zr_lw, zr_la, zr_ll, zw_ii, zw_ww, zw_aa, zw_ll, reduceIte, Nat.reduceEqDiff, if_true, if_false]
          try simp (disch := omega) only [zi9, zi7, zi40, zi360, zikj, zijd, zi9o, zi7o, zip1, zip, zim1, i32_natN, ziL, zi_0, zi_1]
          rw [hPq j (by omega)]
          repeat' (first | (exfalso; omega) | (with_reducible refine zb_in ?_ ?_ ?_ ?_; omega; omega; omega) | (with_reducible refine zb_le ?_ ?_ ?_ ?_ (fun _ => ?_) (fun _ => ?_); omega; omega; omega; omega) | (with_reducible refine zb_lt ?_ ?_ ?_ ?_ (fun _ => ?_) (fun _ => ?_); omega; omega; omega; omega) | (with_reducible refine zb_eq ?_ ?_ ?_ ?_ (fun _ => ?_) (fun _ => ?_); omega; omega; omega; omega) | (with_reducible refine zb_leL ?_ ?_ ?_ ?_ (fun _ => ?_) (fun _ => ?_); omega; omega; omega; omega) | (with_reducible refine zb_ltL ?_ ?_ ?_ ?_ (fun _ => ?_) (fun _ => ?_); omega; omega; omega; omega) | (with_reducible refine zb_eqL ?_ ?_ ?_ ?_ (fun _ => ?_) (fun _ => ?_); omega; omega; omega; omega) | (with_reducible refine zb_nz ?_ ?_ ?_ ?_; omega; omega; omega) | (with_reducible refine zb_nzL ?_ ?_ ?_ ?_; omega; omega; omega) | with_reducible refine zb_ite ?_ | with_reducible refine zb_iteL ?_ | ((with_reducible intro y hy); subst hy; try simp only [zl32, zl64, i32_add, i32_sub, i32_mul, i32_neg, i64_add, i64_sub, i64_mul, i64_neg, cv_gi, cv_gw, cv_ga, cv_gl, cv_pi, cv_pw, cv_pa, cv_pl, zf_S, zf_i, zf_l, mz1, mz2, mz3, mz4, zr_ii, zr_iw, zr_ia, zr_il, zr_wi, zr_ww, zr_wa, zr_wl, zr_ai, zr_aw, zr_aa, zr_al, zr_li, zr_lw, zr_la, zr_ll, zw_ii, zw_ww, zw_aa, zw_ll, reduceIte, Nat.reduceEqDiff, if_true, if_false]) | with_reducible refine zb_o1 ?_ | with_reducible refine zb_o2 ?_ | with_reducible refine zb_o3 ?_ | with_reducible refine zb_o4 ?_ | with_reducible refine zb_tr ?_ | exact trivial | with_reducible refine zb_T ?_ | with_reducible refine zb_sp ?_ ?_)
          refine sM_number (tsl t 57 P) _ hP ?_ ?_ _ ?_
          · unfold zkey at ab a ⊢
            omega
          · unfold zkey at ab a ⊢
            omega
          · try simp only [zl32, zl64, i32_add, i32_sub, i32_mul, i32_neg, i64_add, i64_sub, i64_mul, i64_neg, cv_gi, cv_gw, cv_ga, cv_gl, cv_pi, cv_pw, cv_pa, cv_pl, zf_S, zf_i, zf_l, mz1, mz2, mz3, mz4, zr_ii, zr_iw, zr_ia, zr_il, zr_wi, zr_ww, zr_wa, zr_wl, zr_ai, zr_aw, zr_aa, zr_al, zr_li, zr_lw, zr_la, zr_ll, zw_ii, zw_ww, zw_aa, zw_ll, reduceIte, Nat.reduceEqDiff, if_true, if_false]
            exact e
      rw [wM_multiplies_l3]
      try simp only [zl32, zl64, i32_add, i32_sub, i32_mul, i32_neg, i64_add, i64_sub, i64_mul, i64_neg, cv_gi, cv_gw, cv_ga, cv_gl, cv_pi, cv_pw, cv_pa, cv_pl, zf_S, zf_i, zf_l, mz1, mz2, mz3, mz4]
      rw [show ((c + 1 : Nat) : Int) - 1 = (c : Int) by omega]
      repeat' (first | (exfalso; omega) | (with_reducible refine zb_in ?_ ?_ ?_ ?_; omega; omega; omega) | (with_reducible refine zb_le ?_ ?_ ?_ ?_ (fun _ => ?_) (fun _ => ?_); omega; omega; omega; omega) | (with_reducible refine zb_lt ?_ ?_ ?_ ?_ (fun _ => ?_) (fun _ => ?_); omega; omega; omega; omega) | (with_reducible refine zb_eq ?_ ?_ ?_ ?_ (fun _ => ?_) (fun _ => ?_); omega; omega; omega; omega) | (with_reducible refine zb_leL ?_ ?_ ?_ ?_ (fun _ => ?_) (fun _ => ?_); omega; omega; omega; omega) | (with_reducible refine zb_ltL ?_ ?_ ?_ ?_ (fun _ => ?_) (fun _ => ?_); omega; omega; omega; omega) | (with_reducible refine zb_eqL ?_ ?_ ?_ ?_ (fun _ => ?_) (fun _ => ?_); omega; omega; omega; omega) | (with_reducible refine zb_nz ?_ ?_ ?_ ?_; omega; omega; omega) | (with_reducible refine zb_nzL ?_ ?_ ?_ ?_; omega; omega; omega) | with_reducible refine zb_ite ?_ | with_reducible refine zb_iteL ?_ | ((with_reducible intro y hy); subst hy; try simp only [zl32, zl64, i32_add, i32_sub, i32_mul, i32_neg, i64_add, i64_sub, i64_mul, i64_neg, cv_gi, cv_gw, cv_ga, cv_gl, cv_pi, cv_pw, cv_pa, cv_pl, zf_S, zf_i, zf_l, mz1, mz2, mz3, mz4, zr_ii, zr_iw, zr_ia, zr_il, zr_wi, zr_ww, zr_wa, zr_wl, zr_ai, zr_aw, zr_aa, zr_al, zr_li, zr_lw, zr_la, zr_ll, zw_ii, zw_ww, zw_aa, zw_ll, reduceIte, Nat.reduceEqDiff, if_true, if_false]) | with_reducible refine zb_o1 ?_ | with_reducible refine zb_o2 ?_ | with_reducible refine zb_o3 ?_ | with_reducible refine zb_o4 ?_ | with_reducible refine zb_tr ?_ | exact trivial | with_reducible refine zb_T ?_ | with_reducible refine zb_sp ?_ ?_)
      exact ⟨_, T (c + 1) 0 (by omega)⟩
  unfold wM_multiplies
  try simp only [zl32, zl64, i32_add, i32_sub, i32_mul, i32_neg, i64_add, i64_sub, i64_mul, i64_neg, cv_gi, cv_gw, cv_ga, cv_gl, cv_pi, cv_pw, cv_pa, cv_pl, zf_S, zf_i, zf_l, mz1, mz2, mz3, mz4]
  have e := S 9 (Nat.le_refl _)
  have e2 : (fun q => if 9 ≤ q ∧ q < 9 then zpm (tgw t) (tgl t 57) (zkey t key) q else tgl t 57 q) = tgl t 57 := by
    funext q
    rw [if_neg (by omega)]
  rw [e2, zw_l0] at e
  exact ⟨10, e⟩
def zone (M v : Int) : Nat → Int := fun k => if k = 0 then v % M else 0
theorem zone_red {M : Int} (hM : 0 < M) (v : Int) : zred M 9 (zone M v) := by
  intro q _
  unfold zone
  by_cases c : q = 0
  · rw [if_pos c]
    exact ⟨Int.emod_nonneg _ (by omega), Int.emod_lt_of_pos _ hM⟩
  · rw [if_neg c]
    omega
theorem sM_begins (t : tS) (v : Int) (hP : zPR t) (h1 : -4611686018427387904 ≤ v) (h2 : v ≤ 4611686018427387904) (Q : mS → Prop) (h : Q (cv (tsl t 57 (zov 9 (zone (tgw t) v) (tgl t 57))))) : wM_begins (cv t) (i64 v) Q := by
  have S : ∀ n k : Nat, k + n = 9 → wM_begins_l2 Q (i64 v) (n + 1) (cv (tsl t 57 (zov k (zone (tgw t) v) (tgl t 57)))) (i32 k) := by
    intro n
    induction n with
    | zero =>
      intro k hk
      have hk : k = 9 := by omega
      subst hk
      rw [wM_begins_l2]
      try simp only [zl32, zl64, i32_add, i32_sub, i32_mul, i32_neg, i64_add, i64_sub, i64_mul, i64_neg, cv_gi, cv_gw, cv_ga, cv_gl, cv_pi, cv_pw, cv_pa, cv_pl, zf_S, zf_i, zf_l, mz1, mz2, mz3, mz4]
      repeat' (first | (exfalso; omega) | (with_reducible refine zb_in ?_ ?_ ?_ ?_; omega; omega; omega) | (with_reducible refine zb_le ?_ ?_ ?_ ?_ (fun _ => ?_) (fun _ => ?_); omega; omega; omega; omega) | (with_reducible refine zb_lt ?_ ?_ ?_ ?_ (fun _ => ?_) (fun _ => ?_); omega; omega; omega; omega) | (with_reducible refine zb_eq ?_ ?_ ?_ ?_ (fun _ => ?_) (fun _ => ?_); omega; omega; omega; omega) | (with_reducible refine zb_leL ?_ ?_ ?_ ?_ (fun _ => ?_) (fun _ => ?_); omega; omega; omega; omega) | (with_reducible refine zb_ltL ?_ ?_ ?_ ?_ (fun _ => ?_) (fun _ => ?_); omega; omega; omega; omega) | (with_reducible refine zb_eqL ?_ ?_ ?_ ?_ (fun _ => ?_) (fun _ => ?_); omega; omega; omega; omega) | (with_reducible refine zb_nz ?_ ?_ ?_ ?_; omega; omega; omega) | (with_reducible refine zb_nzL ?_ ?_ ?_ ?_; omega; omega; omega) | with_reducible refine zb_ite ?_ | with_reducible refine zb_iteL ?_ | ((with_reducible intro y hy); subst hy; try simp only [zl32, zl64, i32_add, i32_sub, i32_mul, i32_neg, i64_add, i64_sub, i64_mul, i64_neg, cv_gi, cv_gw, cv_ga, cv_gl, cv_pi, cv_pw, cv_pa, cv_pl, zf_S, zf_i, zf_l, mz1, mz2, mz3, mz4, zr_ii, zr_iw, zr_ia, zr_il, zr_wi, zr_ww, zr_wa, zr_wl, zr_ai, zr_aw, zr_aa, zr_al, zr_li, zr_lw, zr_la, zr_ll, zw_ii, zw_ww, zw_aa, zw_ll, reduceIte, Nat.reduceEqDiff, if_true, if_false]) | with_reducible refine zb_o1 ?_ | with_reducible refine zb_o2 ?_ | with_reducible refine zb_o3 ?_ | with_reducible refine zb_o4 ?_ | with_reducible refine zb_tr ?_ | exact trivial | with_reducible refine zb_T ?_ | with_reducible refine zb_sp ?_ ?_)
      exact h
    | succ n ih =>
      intro k hk
      have e := ih (k + 1) (by omega)
      rw [← zov_s] at e
      unfold zone at e
      rw [wM_begins_l2]
      unfold wM_begins_j26
      unfold zone
      try simp only [zl32, zl64, i32_add, i32_sub, i32_mul, i32_neg, i64_add, i64_sub, i64_mul, i64_neg, cv_gi, cv_gw, cv_ga, cv_gl, cv_pi, cv_pw, cv_pa, cv_pl, zf_S, zf_i, zf_l, mz1, mz2, mz3, mz4, zr_ii, zr_iw, zr_ia, zr_il, zr_wi, zr_ww, zr_wa, zr_wl, zr_ai, zr_aw, zr_aa, zr_al, zr_li, zr_lw, zr_la, zr_ll, zw_ii, zw_ww, zw_aa, zw_ll, reduceIte, Nat.reduceEqDiff, if_true, if_false]
      repeat' (first | (exfalso; omega) | (with_reducible refine zb_in ?_ ?_ ?_ ?_; omega; omega; omega) | (with_reducible refine zb_le ?_ ?_ ?_ ?_ (fun _ => ?_) (fun _ => ?_); omega; omega; omega; omega) | (with_reducible refine zb_lt ?_ ?_ ?_ ?_ (fun _ => ?_) (fun _ => ?_); omega; omega; omega; omega) | (with_reducible refine zb_eq ?_ ?_ ?_ ?_ (fun _ => ?_) (fun _ => ?_); omega; omega; omega; omega) | (with_reducible refine zb_leL ?_ ?_ ?_ ?_ (fun _ => ?_) (fun _ => ?_); omega; omega; omega; omega) | (with_reducible refine zb_ltL ?_ ?_ ?_ ?_ (fun _ => ?_) (fun _ => ?_); omega; omega; omega; omega) | (with_reducible refine zb_eqL ?_ ?_ ?_ ?_ (fun _ => ?_) (fun _ => ?_); omega; omega; omega; omega) | (with_reducible refine zb_nz ?_ ?_ ?_ ?_; omega; omega; omega) | (with_reducible refine zb_nzL ?_ ?_ ?_ ?_; omega; omega; omega) | with_reducible refine zb_ite ?_ | with_reducible refine zb_iteL ?_ | ((with_reducible intro y hy); subst hy; try simp only [zl32, zl64, i32_add, i32_sub, i32_mul, i32_neg, i64_add, i64_sub, i64_mul, i64_neg, cv_gi, cv_gw, cv_ga, cv_gl, cv_pi, cv_pw, cv_pa, cv_pl, zf_S, zf_i, zf_l, mz1, mz2, mz3, mz4, zr_ii, zr_iw, zr_ia, zr_il, zr_wi, zr_ww, zr_wa, zr_wl, zr_ai, zr_aw, zr_aa, zr_al, zr_li, zr_lw, zr_la, zr_ll, zw_ii, zw_ww, zw_aa, zw_ll, reduceIte, Nat.reduceEqDiff, if_true, if_false]) | with_reducible refine zb_o1 ?_ | with_reducible refine zb_o2 ?_ | with_reducible refine zb_o3 ?_ | with_reducible refine zb_o4 ?_ | with_reducible refine zb_tr ?_ | exact trivial | with_reducible refine zb_T ?_ | with_reducible refine zb_sp ?_ ?_)
      · rw [if_pos (by omega)] at e
        refine sM_number (tsl t 57 _) v hP h1 h2 _ ?_
        try simp only [zl32, zl64, i32_add, i32_sub, i32_mul, i32_neg, i64_add, i64_sub, i64_mul, i64_neg, cv_gi, cv_gw, cv_ga, cv_gl, cv_pi, cv_pw, cv_pa, cv_pl, zf_S, zf_i, zf_l, mz1, mz2, mz3, mz4, zr_ii, zr_iw, zr_ia, zr_il, zr_wi, zr_ww, zr_wa, zr_wl, zr_ai, zr_aw, zr_aa, zr_al, zr_li, zr_lw, zr_la, zr_ll, zw_ii, zw_ww, zw_aa, zw_ll, reduceIte, Nat.reduceEqDiff, if_true, if_false]
        try simp (disch := omega) only [zi9, zi7, zi40, zi360, zikj, zijd, zi9o, zi7o, zip1, zip, zim1, i32_natN, ziL, zi_0, zi_1]
        repeat' (first | (exfalso; omega) | (with_reducible refine zb_in ?_ ?_ ?_ ?_; omega; omega; omega) | (with_reducible refine zb_le ?_ ?_ ?_ ?_ (fun _ => ?_) (fun _ => ?_); omega; omega; omega; omega) | (with_reducible refine zb_lt ?_ ?_ ?_ ?_ (fun _ => ?_) (fun _ => ?_); omega; omega; omega; omega) | (with_reducible refine zb_eq ?_ ?_ ?_ ?_ (fun _ => ?_) (fun _ => ?_); omega; omega; omega; omega) | (with_reducible refine zb_leL ?_ ?_ ?_ ?_ (fun _ => ?_) (fun _ => ?_); omega; omega; omega; omega) | (with_reducible refine zb_ltL ?_ ?_ ?_ ?_ (fun _ => ?_) (fun _ => ?_); omega; omega; omega; omega) | (with_reducible refine zb_eqL ?_ ?_ ?_ ?_ (fun _ => ?_) (fun _ => ?_); omega; omega; omega; omega) | (with_reducible refine zb_nz ?_ ?_ ?_ ?_; omega; omega; omega) | (with_reducible refine zb_nzL ?_ ?_ ?_ ?_; omega; omega; omega) | with_reducible refine zb_ite ?_ | with_reducible refine zb_iteL ?_ | ((with_reducible intro y hy); subst hy; try simp only [zl32, zl64, i32_add, i32_sub, i32_mul, i32_neg, i64_add, i64_sub, i64_mul, i64_neg, cv_gi, cv_gw, cv_ga, cv_gl, cv_pi, cv_pw, cv_pa, cv_pl, zf_S, zf_i, zf_l, mz1, mz2, mz3, mz4, zr_ii, zr_iw, zr_ia, zr_il, zr_wi, zr_ww, zr_wa, zr_wl, zr_ai, zr_aw, zr_aa, zr_al, zr_li, zr_lw, zr_la, zr_ll, zw_ii, zw_ww, zw_aa, zw_ll, reduceIte, Nat.reduceEqDiff, if_true, if_false]) | with_reducible refine zb_o1 ?_ | with_reducible refine zb_o2 ?_ | with_reducible refine zb_o3 ?_ | with_reducible refine zb_o4 ?_ | with_reducible refine zb_tr ?_ | exact trivial | with_reducible refine zb_T ?_ | with_reducible refine zb_sp ?_ ?_)
        exact e
      · rw [if_neg (by omega)] at e
        try simp (disch := omega) only [zi9, zi7, zi40, zi360, zikj, zijd, zi9o, zi7o, zip1, zip, zim1, i32_natN, ziL, zi_0, zi_1]
        exact e
  unfold wM_begins
  try simp only [zl32, zl64, i32_add, i32_sub, i32_mul, i32_neg, i64_add, i64_sub, i64_mul, i64_neg, cv_gi, cv_gw, cv_ga, cv_gl, cv_pi, cv_pw, cv_pa, cv_pl, zf_S, zf_i, zf_l, mz1, mz2, mz3, mz4]
  have e := S 9 0 rfl
  rw [zov_0, zw_l0] at e
  exact ⟨10, e⟩
def zit (F : (Nat → Int) → Nat → Int) : Nat → (Nat → Int) → Nat → Int
  | 0, f => f
  | n + 1, f => zit F n (F f)
theorem zit_red {M : Int} {F : (Nat → Int) → Nat → Int} (hF : ∀ f, zred M 9 f → zred M 9 (F f)) : ∀ (n : Nat) (f : Nat → Int), zred M 9 f → zred M 9 (zit F n f) := by
  intro n
  induction n with
  | zero => intro f h; exact h
  | succ n ih => intro f h; exact ih _ (hF f h)
/-- the factors of less, level by level -/
def zlv (M p : Int) (pa : zP) (sm : Nat → Int) (root : Int) : Nat → Nat → Int
  | 0 => zit (fun f k => f k * p % M) (sm 0).toNat (zone M root)
  | n + 1 => zit (fun f => zpm M f (zpK pa (n + 1))) (sm (n + 1)).toNat (zlv M p pa sm root n)
/-- the next key -/
def znk (M p : Int) (pa : zP) (ram : Nat) (sm : Nat → Int) (root : Int) : Nat → Int := fun k => (zit (fun f => zpm M f (zpK pa (zpL pa))) ram (zone M 1) k - zlv M p pa sm root (zpL pa - 1) k) % M
theorem zlv_red {M p : Int} (hM : 0 < M) {pa : zP} {sm : Nat → Int} {root : Int} : ∀ n : Nat, zred M 9 (zlv M p pa sm root n) := by
  intro n
  induction n with
  | zero =>
    unfold zlv
    exact zit_red (fun f _ q _ => ⟨Int.emod_nonneg _ (by omega), Int.emod_lt_of_pos _ hM⟩) _ _ (zone_red hM _)
  | succ n ih =>
    unfold zlv
    exact zit_red (fun f _ => zpm_red hM) _ _ ih
theorem znk_red {M p : Int} (hM : 0 < M) {pa : zP} {ram : Nat} {sm : Nat → Int} {root : Int} : zred M 9 (znk M p pa ram sm root) := fun _ _ => ⟨Int.emod_nonneg _ (by omega), Int.emod_lt_of_pos _ hM⟩
/-- the state of a key being made: what stands in product; keys but the one at hand are as they were -/
def zPd (t u : tS) (to : Nat) (X : Nat → Int) : Prop := zfr [] [] [9, 57] t u ∧ tgl u 57 = zov 9 X (tgl t 57) ∧ ∀ q, q < 9 * to ∨ 9 * to + 9 ≤ q → tgl u 9 q = tgl t 9 q
theorem sM_mulBy (t u : tS) (to kn : Nat) (X K : Nat → Int) (hP : zPR t) (hu : zPd t u to X) (hX : zred (tgw t) 9 X) (hto : kn ≠ to) (hkn : kn < 40) (hK : ∀ i, i < 9 → tgl t 9 (9 * kn + i) = K i) (hKr : zred (tgw t) 9 K) (Q : mS → Prop) (h : ∀ v, zPd t v to (zpm (tgw t) X K) → (tgl v 9 = tgl u 9) → Q (cv v)) : wM_multiplies (cv u) (i32 (9 * kn : Nat)) Q := by
  obtain ⟨h1, h2, h3⟩ := hu
  have hPu := h1.PR (by decide) (by decide) hP
  have ew : tgw u = tgw t := h1.1.symm
  have hk : ∀ i, i < 9 → zkey u (9 * kn) i = K i := by
    intro i hi
    unfold zkey
    rw [h3 _ (by omega)]
    exact hK i hi
  have e57 : ∀ q, q < 9 → tgl u 57 q = X q := by
    intro q hq
    rw [h2]
    exact zov_at hq
  refine sM_multiplies u (9 * kn) (by omega) hPu (fun q hq => by rw [e57 q hq, ew]; exact hX q hq) (fun q hq => by rw [hk q hq, ew]; exact hKr q hq) _ ?_
  refine h _ ⟨zfr_sl h1 (by decide), ?_, fun q hq => ?_⟩ ?_
  · rw [zr_ll, if_pos rfl, ew, h2, zov_zov]
    refine zov_congr (fun q hq => ?_)
    refine zpm_congr (fun i hi => ?_) (fun i hi => hk i (by omega))
    rw [← h2]
    exact e57 i (by omega)
  · rw [zr_ll, if_neg (by decide)]
    exact h3 q hq
  · rw [zr_ll, if_neg (by decide)]
