/-! PURE 15: monomials taken down; residues of sides; the model's -/
set_option maxRecDepth 100000
def zt1 (pa : zP) (p : Int) (k : Nat) : Nat → (Nat → Int) → Int → (Nat → Int) × Int
  | 0, μ, r => (μ, r)
  | n + 1, μ, r => if (zpR pa k : Int) ≤ μ k then zt1 pa p k n (fun q => (if q = k then μ q - zpR pa k else μ q) + zpM pa k q) (r * zpO pa k % p) else (μ, r)
def zt2 (pa : zP) (p : Int) : Nat → (Nat → Int) → Int → (Nat → Int) × Int
  | 0, μ, r => (μ, r)
  | k + 1, μ, r => zt2 pa p k (zt1 pa p (k + 1) (μ (k + 1)).toNat μ r).1 (zt1 pa p (k + 1) (μ (k + 1)).toNat μ r).2
def ztd (pa : zP) (p : Int) (μ : Nat → Int) (r : Int) : (Nat → Int) × Int := zt2 pa p (zpL pa - 1) μ r
def zMd (t : tS) (pa : zP) : Prop := ∀ k, 1 ≤ k → k < zpL pa → tga t 34 (zpA pa (k + 1)) = zpO pa k ∧ ∀ q, q < 7 → tga t 35 (7 * zpA pa (k + 1) + q) = zpM pa k q
theorem zov_zov (n : Nat) (f g h : Nat → Int) : zov n f (zov n g h) = zov n f h := by
  funext q
  unfold zov
  by_cases c : q < n
  · rw [if_pos c, if_pos c]
  · rw [if_neg c, if_neg c, if_neg c]
theorem zov_at {n : Nat} {f g : Nat → Int} {q : Nat} (h : q < n) : zov n f g q = f q := if_pos h
theorem zMd.moved {t u : tS} {pa : zP} {ki ka kl : List Nat} (h : zMd t pa) (hf : zfr ki ka kl t u) (h34 : 34 ∉ ka) (h35 : 35 ∉ ka) : zMd u pa := by
  unfold zMd
  rw [hf.a 34 h34, hf.a 35 h35]
  exact h
/-- one level is taken down -/
theorem sM_takesDown_l12 (t : tS) (pa : zP) (k : Nat) (hP : zPR t) (hH : zHd t pa) (hK : zKy t pa) (hM : zMd t pa) {M : Int} (hv : zPv M pa) (hw : zPw (tgi t 0) pa) (hk1 : 1 ≤ k) (hk2 : k < zpL pa) (B : Int) (hB : B ≤ 1000000000) (rec7 : mS → Int32 → Prop) (Q : mS → Prop) :
    ∀ (n : Nat) (μ : Nat → Int) (r : Int) (u : tS), zfr [56] [55] [] t u → tga u 55 = zov 7 μ (tga t 55) → tgi u 56 = r → 0 ≤ r → r < tgi t 0 → (∀ q, 1 ≤ q → q < 7 → 0 ≤ μ q ∧ μ q + 3 * n ≤ B) → μ k ≤ n →
      (∀ v, zfr [56] [55] [] t v → tga v 55 = zov 7 (zt1 pa (tgi t 0) k n μ r).1 (tga t 55) → tgi v 56 = (zt1 pa (tgi t 0) k n μ r).2 → 0 ≤ (zt1 pa (tgi t 0) k n μ r).2 → (zt1 pa (tgi t 0) k n μ r).2 < tgi t 0 → (∀ q, 1 ≤ q → q < 7 → 0 ≤ (zt1 pa (tgi t 0) k n μ r).1 q ∧ (zt1 pa (tgi t 0) k n μ r).1 q ≤ B) → rec7 (cv v) (i32 ((k : Int) + -1))) →
      wM_takesDown_l12 rec7 Q (i32 k) (n + 1) (cv u) := by
  have hp := hP.p
  have hL6 := hv.2.1
  have hR := hv.R hk1 hk2
  have a3 := hH.2.2 k hk1 hk2
  have hW := hw k hk1 hk2
  have hM' := hM k hk1 hk2
  have hkn := (hK (k + 1) (by omega) (by omega)).1
  intro n
  induction n with
  | zero =>
    intro μ r u hu h55 h56 hr0 hr1 hμ hμk h
    have h50 : tga u 50 = tga t 50 := hu.a 50 (by decide)
    have hk0 := hμ k hk1 (by omega)
    rw [wM_takesDown_l12]
    try simp only [zl32, zl64, i32_add, i32_sub, i32_mul, i32_neg, i64_add, i64_sub, i64_mul, i64_neg, cv_gi, cv_gw, cv_ga, cv_gl, cv_pi, cv_pw, cv_pa, cv_pl, zf_S, zf_i, zf_l, mz1, mz2, mz3, mz4, zr_ii, zr_iw, zr_ia, zr_il, zr_wi, zr_ww, zr_wa, zr_wl, zr_ai, zr_aw, zr_aa, zr_al, zr_li, zr_lw, zr_la, zr_ll, zw_ii, zw_ww, zw_aa, zw_ll, reduceIte, Nat.reduceEqDiff, if_true, if_false]
    try simp (disch := omega) only [zi9, zi7, zi40, zi360, zikj, zijd, zi9o, zi7o, zip1, zip, zim1, i32_natN, ziL, zi_0, zi_1]
    rw [h50, a3.1, h55, zov_at (by omega)]
    repeat' (first | (exfalso; omega) | (with_reducible refine zb_in ?_ ?_ ?_ ?_; omega; omega; omega) | (with_reducible refine zb_le ?_ ?_ ?_ ?_ (fun _ => ?_) (fun _ => ?_); omega; omega; omega; omega) | (with_reducible refine zb_lt ?_ ?_ ?_ ?_ (fun _ => ?_) (fun _ => ?_); omega; omega; omega; omega) | (with_reducible refine zb_eq ?_ ?_ ?_ ?_ (fun _ => ?_) (fun _ => ?_); omega; omega; omega; omega) | (with_reducible refine zb_leL ?_ ?_ ?_ ?_ (fun _ => ?_) (fun _ => ?_); omega; omega; omega; omega) | (with_reducible refine zb_ltL ?_ ?_ ?_ ?_ (fun _ => ?_) (fun _ => ?_); omega; omega; omega; omega) | (with_reducible refine zb_eqL ?_ ?_ ?_ ?_ (fun _ => ?_) (fun _ => ?_); omega; omega; omega; omega) | (with_reducible refine zb_nz ?_ ?_ ?_ ?_; omega; omega; omega) | (with_reducible refine zb_nzL ?_ ?_ ?_ ?_; omega; omega; omega) | with_reducible refine zb_ite ?_ | with_reducible refine zb_iteL ?_ | ((with_reducible intro y hy); subst hy; try simp only [zl32, zl64, i32_add, i32_sub, i32_mul, i32_neg, i64_add, i64_sub, i64_mul, i64_neg, cv_gi, cv_gw, cv_ga, cv_gl, cv_pi, cv_pw, cv_pa, cv_pl, zf_S, zf_i, zf_l, mz1, mz2, mz3, mz4, zr_ii, zr_iw, zr_ia, zr_il, zr_wi, zr_ww, zr_wa, zr_wl, zr_ai, zr_aw, zr_aa, zr_al, zr_li, zr_lw, zr_la, zr_ll, zw_ii, zw_ww, zw_aa, zw_ll, reduceIte, Nat.reduceEqDiff, if_true, if_false]) | with_reducible refine zb_o1 ?_ | with_reducible refine zb_o2 ?_ | with_reducible refine zb_o3 ?_ | with_reducible refine zb_o4 ?_ | with_reducible refine zb_tr ?_ | exact trivial | with_reducible refine zb_T ?_ | with_reducible refine zb_sp ?_ ?_)
    exact h u hu h55 h56 hr0 hr1 (fun q a b => ⟨(hμ q a b).1, by have := (hμ q a b).2; show μ q ≤ B; omega⟩)
  | succ n ih =>
    intro μ r u hu h55 h56 hr0 hr1 hμ hμk h
    have h50 : tga u 50 = tga t 50 := hu.a 50 (by decide)
    have hk0 := hμ k hk1 (by omega)
    unfold zt1 at h
    rw [wM_takesDown_l12]
    try simp only [zl32, zl64, i32_add, i32_sub, i32_mul, i32_neg, i64_add, i64_sub, i64_mul, i64_neg, cv_gi, cv_gw, cv_ga, cv_gl, cv_pi, cv_pw, cv_pa, cv_pl, zf_S, zf_i, zf_l, mz1, mz2, mz3, mz4, zr_ii, zr_iw, zr_ia, zr_il, zr_wi, zr_ww, zr_wa, zr_wl, zr_ai, zr_aw, zr_aa, zr_al, zr_li, zr_lw, zr_la, zr_ll, zw_ii, zw_ww, zw_aa, zw_ll, reduceIte, Nat.reduceEqDiff, if_true, if_false]
    try simp (disch := omega) only [zi9, zi7, zi40, zi360, zikj, zijd, zi9o, zi7o, zip1, zip, zim1, i32_natN, ziL, zi_0, zi_1]
    rw [h50, a3.1, h55, zov_at (by omega)]
    repeat' (first | (exfalso; omega) | (with_reducible refine zb_in ?_ ?_ ?_ ?_; omega; omega; omega) | (with_reducible refine zb_le ?_ ?_ ?_ ?_ (fun _ => ?_) (fun _ => ?_); omega; omega; omega; omega) | (with_reducible refine zb_lt ?_ ?_ ?_ ?_ (fun _ => ?_) (fun _ => ?_); omega; omega; omega; omega) | (with_reducible refine zb_eq ?_ ?_ ?_ ?_ (fun _ => ?_) (fun _ => ?_); omega; omega; omega; omega) | (with_reducible refine zb_leL ?_ ?_ ?_ ?_ (fun _ => ?_) (fun _ => ?_); omega; omega; omega; omega) | (with_reducible refine zb_ltL ?_ ?_ ?_ ?_ (fun _ => ?_) (fun _ => ?_); omega; omega; omega; omega) | (with_reducible refine zb_eqL ?_ ?_ ?_ ?_ (fun _ => ?_) (fun _ => ?_); omega; omega; omega; omega) | (with_reducible refine zb_nz ?_ ?_ ?_ ?_; omega; omega; omega) | (with_reducible refine zb_nzL ?_ ?_ ?_ ?_; omega; omega; omega) | with_reducible refine zb_ite ?_ | with_reducible refine zb_iteL ?_ | ((with_reducible intro y hy); subst hy; try simp only [zl32, zl64, i32_add, i32_sub, i32_mul, i32_neg, i64_add, i64_sub, i64_mul, i64_neg, cv_gi, cv_gw, cv_ga, cv_gl, cv_pi, cv_pw, cv_pa, cv_pl, zf_S, zf_i, zf_l, mz1, mz2, mz3, mz4, zr_ii, zr_iw, zr_ia, zr_il, zr_wi, zr_ww, zr_wa, zr_wl, zr_ai, zr_aw, zr_aa, zr_al, zr_li, zr_lw, zr_la, zr_ll, zw_ii, zw_ww, zw_aa, zw_ll, reduceIte, Nat.reduceEqDiff, if_true, if_false]) | with_reducible refine zb_o1 ?_ | with_reducible refine zb_o2 ?_ | with_reducible refine zb_o3 ?_ | with_reducible refine zb_o4 ?_ | with_reducible refine zb_tr ?_ | exact trivial | with_reducible refine zb_T ?_ | with_reducible refine zb_sp ?_ ?_)
    · rw [if_neg (by omega)] at h
      exact h u hu h55 h56 hr0 hr1 (fun q a b => ⟨(hμ q a b).1, by have := (hμ q a b).2; show μ q ≤ B; omega⟩)
    · rw [if_pos (by omega)] at h
      obtain ⟨μ1, hμ1⟩ : ∃ μ1 : Nat → Int, μ1 = fun q => if q = k then μ q - zpR pa k else μ q := ⟨_, rfl⟩
      obtain ⟨μ2, hμ2⟩ : ∃ μ2 : Nat → Int, μ2 = fun q => (if q = k then μ q - zpR pa k else μ q) + zpM pa k q := ⟨_, rfl⟩
      rw [← hμ2] at h
      have h12 : ∀ q, μ2 q = μ1 q + zpM pa k q := by
        intro q
        rw [hμ2, hμ1]
      have eu : zup (zov 7 μ (tga t 55)) k (μ k - zpR pa k) = zov 7 μ1 (tga t 55) := by
        funext q
        rw [hμ1]
        unfold zup zov
        dsimp only
        by_cases c : q = k
        · rw [if_pos c, if_pos (by omega), if_pos c, c]
        · rw [if_neg c, if_neg c]
      rw [eu]
      have rb := ze_mulp hr0 hr1 (b := zpO pa k) (by omega) hW.2.2.1 hp.2
      have T : ∀ m x : Nat, x + m = 7 → wM_takesDown_l44 (fun z => wM_takesDown_l12 rec7 Q (i32 k) (n + 1) z) rec7 Q (i32 k) (m + 1) (cv (tsa u 55 (zov x μ2 (zov 7 μ1 (tga t 55))))) (i32 x) := by
        intro m
        induction m with
        | zero =>
          intro x hx
          have hx : x = 7 := by omega
          subst hx
          have h54 : tga u 54 = tga t 54 := hu.a 54 (by decide)
          have h34 : tga u 34 = tga t 34 := hu.a 34 (by decide)
          have e0 := hu.i 0 (by decide)
          rw [wM_takesDown_l44, zov_zov]
          try simp only [zl32, zl64, i32_add, i32_sub, i32_mul, i32_neg, i64_add, i64_sub, i64_mul, i64_neg, cv_gi, cv_gw, cv_ga, cv_gl, cv_pi, cv_pw, cv_pa, cv_pl, zf_S, zf_i, zf_l, mz1, mz2, mz3, mz4, zr_ii, zr_iw, zr_ia, zr_il, zr_wi, zr_ww, zr_wa, zr_wl, zr_ai, zr_aw, zr_aa, zr_al, zr_li, zr_lw, zr_la, zr_ll, zw_ii, zw_ww, zw_aa, zw_ll, reduceIte, Nat.reduceEqDiff, if_true, if_false]
          try simp (disch := omega) only [zi9, zi7, zi40, zi360, zikj, zijd, zi9o, zi7o, zip1, zip, zim1, i32_natN, ziL, zi_0, zi_1]
          rw [h54, h34, e0, a3.2.2, h56]
          try simp (disch := omega) only [zi9, zi7, zi40, zi360, zikj, zijd, zi9o, zi7o, zip1, zip, zim1, i32_natN, ziL, zi_0, zi_1]
          rw [hM'.1]
          repeat' (first | (exfalso; omega) | (with_reducible refine zb_in ?_ ?_ ?_ ?_; omega; omega; omega) | (with_reducible refine zb_le ?_ ?_ ?_ ?_ (fun _ => ?_) (fun _ => ?_); omega; omega; omega; omega) | (with_reducible refine zb_lt ?_ ?_ ?_ ?_ (fun _ => ?_) (fun _ => ?_); omega; omega; omega; omega) | (with_reducible refine zb_eq ?_ ?_ ?_ ?_ (fun _ => ?_) (fun _ => ?_); omega; omega; omega; omega) | (with_reducible refine zb_leL ?_ ?_ ?_ ?_ (fun _ => ?_) (fun _ => ?_); omega; omega; omega; omega) | (with_reducible refine zb_ltL ?_ ?_ ?_ ?_ (fun _ => ?_) (fun _ => ?_); omega; omega; omega; omega) | (with_reducible refine zb_eqL ?_ ?_ ?_ ?_ (fun _ => ?_) (fun _ => ?_); omega; omega; omega; omega) | (with_reducible refine zb_nz ?_ ?_ ?_ ?_; omega; omega; omega) | (with_reducible refine zb_nzL ?_ ?_ ?_ ?_; omega; omega; omega) | with_reducible refine zb_ite ?_ | with_reducible refine zb_iteL ?_ | ((with_reducible intro y hy); subst hy; try simp only [zl32, zl64, i32_add, i32_sub, i32_mul, i32_neg, i64_add, i64_sub, i64_mul, i64_neg, cv_gi, cv_gw, cv_ga, cv_gl, cv_pi, cv_pw, cv_pa, cv_pl, zf_S, zf_i, zf_l, mz1, mz2, mz3, mz4, zr_ii, zr_iw, zr_ia, zr_il, zr_wi, zr_ww, zr_wa, zr_wl, zr_ai, zr_aw, zr_aa, zr_al, zr_li, zr_lw, zr_la, zr_ll, zw_ii, zw_ww, zw_aa, zw_ll, reduceIte, Nat.reduceEqDiff, if_true, if_false]) | with_reducible refine zb_o1 ?_ | with_reducible refine zb_o2 ?_ | with_reducible refine zb_o3 ?_ | with_reducible refine zb_o4 ?_ | with_reducible refine zb_tr ?_ | exact trivial | with_reducible refine zb_T ?_ | with_reducible refine zb_sp ?_ ?_)
          rw [i32_div (by omega) (by omega) (by omega) (by omega)]
          try simp only [zl32, zl64, i32_add, i32_sub, i32_mul, i32_neg, i64_add, i64_sub, i64_mul, i64_neg, cv_gi, cv_gw, cv_ga, cv_gl, cv_pi, cv_pw, cv_pa, cv_pl, zf_S, zf_i, zf_l, mz1, mz2, mz3, mz4, zr_ii, zr_iw, zr_ia, zr_il, zr_wi, zr_ww, zr_wa, zr_wl, zr_ai, zr_aw, zr_aa, zr_al, zr_li, zr_lw, zr_la, zr_ll, zw_ii, zw_ww, zw_aa, zw_ll, reduceIte, Nat.reduceEqDiff, if_true, if_false]
          rw [ze_tdivn rb.1, ze_emodn]
          refine ih μ2 (r * zpO pa k % tgi t 0) _ (zfr_pi (zfr_sa hu (by decide)) (by decide)) (by try simp only [zl32, zl64, i32_add, i32_sub, i32_mul, i32_neg, i64_add, i64_sub, i64_mul, i64_neg, cv_gi, cv_gw, cv_ga, cv_gl, cv_pi, cv_pw, cv_pa, cv_pl, zf_S, zf_i, zf_l, mz1, mz2, mz3, mz4, zr_ii, zr_iw, zr_ia, zr_il, zr_wi, zr_ww, zr_wa, zr_wl, zr_ai, zr_aw, zr_aa, zr_al, zr_li, zr_lw, zr_la, zr_ll, zw_ii, zw_ww, zw_aa, zw_ll, reduceIte, Nat.reduceEqDiff, if_true, if_false]) (by try simp only [zl32, zl64, i32_add, i32_sub, i32_mul, i32_neg, i64_add, i64_sub, i64_mul, i64_neg, cv_gi, cv_gw, cv_ga, cv_gl, cv_pi, cv_pw, cv_pa, cv_pl, zf_S, zf_i, zf_l, mz1, mz2, mz3, mz4, zr_ii, zr_iw, zr_ia, zr_il, zr_wi, zr_ww, zr_wa, zr_wl, zr_ai, zr_aw, zr_aa, zr_al, zr_li, zr_lw, zr_la, zr_ll, zw_ii, zw_ww, zw_aa, zw_ll, reduceIte, Nat.reduceEqDiff, if_true, if_false]) (Int.emod_nonneg _ (by omega)) (Int.emod_lt_of_pos _ (by omega)) (fun q a b => ?_) ?_ h
          · have w := hW.2.2.2.2 q a b
            have b2 := hμ q a b
            rw [h12, hμ1]
            dsimp only
            by_cases c : q = k
            · rw [if_pos c]
              have := w.2.2 (by omega)
              subst c
              omega
            · rw [if_neg c]
              omega
          · have w := hW.2.2.2.2 k hk1 (by omega)
            rw [h12, hμ1]
            dsimp only
            rw [if_pos rfl, w.2.2 (Nat.le_refl _)]
            omega
        | succ m ihm =>
          intro x hx
          have e := ihm (x + 1) (by omega)
          rw [← zov_s] at e
          have h54 : tga u 54 = tga t 54 := hu.a 54 (by decide)
          have h35 : tga u 35 = tga t 35 := hu.a 35 (by decide)
          have ex : zov x μ2 (zov 7 μ1 (tga t 55)) x = μ1 x := by
            unfold zov
            rw [if_neg (by omega), if_pos (by omega)]
          rw [wM_takesDown_l44]
          try simp only [zl32, zl64, i32_add, i32_sub, i32_mul, i32_neg, i64_add, i64_sub, i64_mul, i64_neg, cv_gi, cv_gw, cv_ga, cv_gl, cv_pi, cv_pw, cv_pa, cv_pl, zf_S, zf_i, zf_l, mz1, mz2, mz3, mz4, zr_ii, zr_iw, zr_ia, zr_il, zr_wi, zr_ww, zr_wa, zr_wl, zr_ai, zr_aw, zr_aa, zr_al, zr_li, zr_lw, zr_la, zr_ll, zw_ii, zw_ww, zw_aa, zw_ll, reduceIte, Nat.reduceEqDiff, if_true, if_false]
          try simp (disch := omega) only [zi9, zi7, zi40, zi360, zikj, zijd, zi9o, zi7o, zip1, zip, zim1, i32_natN, ziL, zi_0, zi_1]
          rw [h54, h35, a3.2.2]
          try simp (disch := omega) only [zi9, zi7, zi40, zi360, zikj, zijd, zi9o, zi7o, zip1, zip, zim1, i32_natN, ziL, zi_0, zi_1]
          rw [hM'.2 x (by omega), ex, ← h12]
          repeat' (first | (exfalso; omega) | (with_reducible refine zb_in ?_ ?_ ?_ ?_; omega; omega; omega) | (with_reducible refine zb_le ?_ ?_ ?_ ?_ (fun _ => ?_) (fun _ => ?_); omega; omega; omega; omega) | (with_reducible refine zb_lt ?_ ?_ ?_ ?_ (fun _ => ?_) (fun _ => ?_); omega; omega; omega; omega) | (with_reducible refine zb_eq ?_ ?_ ?_ ?_ (fun _ => ?_) (fun _ => ?_); omega; omega; omega; omega) | (with_reducible refine zb_leL ?_ ?_ ?_ ?_ (fun _ => ?_) (fun _ => ?_); omega; omega; omega; omega) | (with_reducible refine zb_ltL ?_ ?_ ?_ ?_ (fun _ => ?_) (fun _ => ?_); omega; omega; omega; omega) | (with_reducible refine zb_eqL ?_ ?_ ?_ ?_ (fun _ => ?_) (fun _ => ?_); omega; omega; omega; omega) | (with_reducible refine zb_nz ?_ ?_ ?_ ?_; omega; omega; omega) | (with_reducible refine zb_nzL ?_ ?_ ?_ ?_; omega; omega; omega) | with_reducible refine zb_ite ?_ | with_reducible refine zb_iteL ?_ | ((with_reducible intro y hy); subst hy; try simp only [zl32, zl64, i32_add, i32_sub, i32_mul, i32_neg, i64_add, i64_sub, i64_mul, i64_neg, cv_gi, cv_gw, cv_ga, cv_gl, cv_pi, cv_pw, cv_pa, cv_pl, zf_S, zf_i, zf_l, mz1, mz2, mz3, mz4, zr_ii, zr_iw, zr_ia, zr_il, zr_wi, zr_ww, zr_wa, zr_wl, zr_ai, zr_aw, zr_aa, zr_al, zr_li, zr_lw, zr_la, zr_ll, zw_ii, zw_ww, zw_aa, zw_ll, reduceIte, Nat.reduceEqDiff, if_true, if_false]) | with_reducible refine zb_o1 ?_ | with_reducible refine zb_o2 ?_ | with_reducible refine zb_o3 ?_ | with_reducible refine zb_o4 ?_ | with_reducible refine zb_tr ?_ | exact trivial | with_reducible refine zb_T ?_ | with_reducible refine zb_sp ?_ ?_)
          exact e
      have e := T 7 0 rfl
      rw [zov_0] at e
      exact ⟨8, e⟩
theorem sM_takesDown (t : tS) (pa : zP) (μ : Nat → Int) (r : Int) (hP : zPR t) (hH : zHd t pa) (hK : zKy t pa) (hM : zMd t pa) {M : Int} (hv : zPv M pa) (hw : zPw (tgi t 0) pa) (h55 : ∀ q, q < 7 → tga t 55 q = μ q) (h56 : tgi t 56 = r) (hr0 : 0 ≤ r) (hr1 : r < tgi t 0) (hμ : ∀ q, 1 ≤ q → q < 7 → 0 ≤ μ q ∧ μ q ≤ 1000) (Q : mS → Prop)
    (h : ∀ v, zfr [56] [55] [] t v → tgi v 56 = (ztd pa (tgi t 0) μ r).2 → Q (cv v)) : wM_takesDown (cv t) Q := by
  have hL6 := hv.2.1
  have hL1 := hv.1
  have h49 := hH.1
  have S : ∀ (k : Nat) (μ : Nat → Int) (r b : Int) (u : tS), k < zpL pa → zfr [56] [55] [] t u → tga u 55 = zov 7 μ (tga t 55) → tgi u 56 = r → 0 ≤ r → r < tgi t 0 → (∀ q, 1 ≤ q → q < 7 → 0 ≤ μ q ∧ μ q ≤ b) → b * 4 ^ k ≤ 1024000 → 0 ≤ b → (∀ v, zfr [56] [55] [] t v → tgi v 56 = (zt2 pa (tgi t 0) k μ r).2 → Q (cv v)) → wM_takesDown_l7 Q (k + 1) (cv u) (i32 k) := by
    intro k
    induction k with
    | zero =>
      intro μ r b u hk hu h55 h56 hr0 hr1 hμ hb hb0 h
      rw [wM_takesDown_l7]
      try simp only [zl32, zl64, i32_add, i32_sub, i32_mul, i32_neg, i64_add, i64_sub, i64_mul, i64_neg, cv_gi, cv_gw, cv_ga, cv_gl, cv_pi, cv_pw, cv_pa, cv_pl, zf_S, zf_i, zf_l, mz1, mz2, mz3, mz4]
      repeat' (first | (exfalso; omega) | (with_reducible refine zb_in ?_ ?_ ?_ ?_; omega; omega; omega) | (with_reducible refine zb_le ?_ ?_ ?_ ?_ (fun _ => ?_) (fun _ => ?_); omega; omega; omega; omega) | (with_reducible refine zb_lt ?_ ?_ ?_ ?_ (fun _ => ?_) (fun _ => ?_); omega; omega; omega; omega) | (with_reducible refine zb_eq ?_ ?_ ?_ ?_ (fun _ => ?_) (fun _ => ?_); omega; omega; omega; omega) | (with_reducible refine zb_leL ?_ ?_ ?_ ?_ (fun _ => ?_) (fun _ => ?_); omega; omega; omega; omega) | (with_reducible refine zb_ltL ?_ ?_ ?_ ?_ (fun _ => ?_) (fun _ => ?_); omega; omega; omega; omega) | (with_reducible refine zb_eqL ?_ ?_ ?_ ?_ (fun _ => ?_) (fun _ => ?_); omega; omega; omega; omega) | (with_reducible refine zb_nz ?_ ?_ ?_ ?_; omega; omega; omega) | (with_reducible refine zb_nzL ?_ ?_ ?_ ?_; omega; omega; omega) | with_reducible refine zb_ite ?_ | with_reducible refine zb_iteL ?_ | ((with_reducible intro y hy); subst hy; try simp only [zl32, zl64, i32_add, i32_sub, i32_mul, i32_neg, i64_add, i64_sub, i64_mul, i64_neg, cv_gi, cv_gw, cv_ga, cv_gl, cv_pi, cv_pw, cv_pa, cv_pl, zf_S, zf_i, zf_l, mz1, mz2, mz3, mz4, zr_ii, zr_iw, zr_ia, zr_il, zr_wi, zr_ww, zr_wa, zr_wl, zr_ai, zr_aw, zr_aa, zr_al, zr_li, zr_lw, zr_la, zr_ll, zw_ii, zw_ww, zw_aa, zw_ll, reduceIte, Nat.reduceEqDiff, if_true, if_false]) | with_reducible refine zb_o1 ?_ | with_reducible refine zb_o2 ?_ | with_reducible refine zb_o3 ?_ | with_reducible refine zb_o4 ?_ | with_reducible refine zb_tr ?_ | exact trivial | with_reducible refine zb_T ?_ | with_reducible refine zb_sp ?_ ?_)
      exact h u hu h56
    | succ k ih =>
      intro μ r b u hk hu h55 h56 hr0 hr1 hμ hb hb0 h
      rw [wM_takesDown_l7]
      try simp only [zl32, zl64, i32_add, i32_sub, i32_mul, i32_neg, i64_add, i64_sub, i64_mul, i64_neg, cv_gi, cv_gw, cv_ga, cv_gl, cv_pi, cv_pw, cv_pa, cv_pl, zf_S, zf_i, zf_l, mz1, mz2, mz3, mz4]
      repeat' (first | (exfalso; omega) | (with_reducible refine zb_in ?_ ?_ ?_ ?_; omega; omega; omega) | (with_reducible refine zb_le ?_ ?_ ?_ ?_ (fun _ => ?_) (fun _ => ?_); omega; omega; omega; omega) | (with_reducible refine zb_lt ?_ ?_ ?_ ?_ (fun _ => ?_) (fun _ => ?_); omega; omega; omega; omega) | (with_reducible refine zb_eq ?_ ?_ ?_ ?_ (fun _ => ?_) (fun _ => ?_); omega; omega; omega; omega) | (with_reducible refine zb_leL ?_ ?_ ?_ ?_ (fun _ => ?_) (fun _ => ?_); omega; omega; omega; omega) | (with_reducible refine zb_ltL ?_ ?_ ?_ ?_ (fun _ => ?_) (fun _ => ?_); omega; omega; omega; omega) | (with_reducible refine zb_eqL ?_ ?_ ?_ ?_ (fun _ => ?_) (fun _ => ?_); omega; omega; omega; omega) | (with_reducible refine zb_nz ?_ ?_ ?_ ?_; omega; omega; omega) | (with_reducible refine zb_nzL ?_ ?_ ?_ ?_; omega; omega; omega) | with_reducible refine zb_ite ?_ | with_reducible refine zb_iteL ?_ | ((with_reducible intro y hy); subst hy; try simp only [zl32, zl64, i32_add, i32_sub, i32_mul, i32_neg, i64_add, i64_sub, i64_mul, i64_neg, cv_gi, cv_gw, cv_ga, cv_gl, cv_pi, cv_pw, cv_pa, cv_pl, zf_S, zf_i, zf_l, mz1, mz2, mz3, mz4, zr_ii, zr_iw, zr_ia, zr_il, zr_wi, zr_ww, zr_wa, zr_wl, zr_ai, zr_aw, zr_aa, zr_al, zr_li, zr_lw, zr_la, zr_ll, zw_ii, zw_ww, zw_aa, zw_ll, reduceIte, Nat.reduceEqDiff, if_true, if_false]) | with_reducible refine zb_o1 ?_ | with_reducible refine zb_o2 ?_ | with_reducible refine zb_o3 ?_ | with_reducible refine zb_o4 ?_ | with_reducible refine zb_tr ?_ | exact trivial | with_reducible refine zb_T ?_ | with_reducible refine zb_sp ?_ ?_)
      have hk0 := hμ (k + 1) (by omega) (by omega)
      have hb4 : b * 4 ^ (k + 1) = (4 * b) * 4 ^ k := by
        rw [Int.pow_succ, Int.mul_comm 4 b, Int.mul_assoc, Int.mul_comm (4 ^ k)]
      have h4k : (1 : Int) ≤ 4 ^ k := Int.pow_pos (by omega)
      have hbB : 4 * b ≤ 1024000 := by
        have := Int.mul_le_mul_of_nonneg_left h4k (show 0 ≤ 4 * b by omega)
        omega
      refine ⟨(μ (k + 1)).toNat + 1, ?_⟩
      refine sM_takesDown_l12 t pa (k + 1) hP hH hK hM hv hw (by omega) hk (4 * b) (by omega) _ Q (μ (k + 1)).toNat μ r u hu h55 h56 hr0 hr1 (fun q a c => ⟨(hμ q a c).1, by have := (hμ q a c).2; omega⟩) (by omega) (fun v v1 v2 v3 v4 v5 v6 => ?_)
      rw [show ((k + 1 : Nat) : Int) + -1 = (k : Int) by omega]
      exact ih _ _ (4 * b) v (by omega) v1 v2 v3 v4 v5 v6 (by omega) (by omega) h
  unfold wM_takesDown
  try simp only [zl32, zl64, i32_add, i32_sub, i32_mul, i32_neg, i64_add, i64_sub, i64_mul, i64_neg, cv_gi, cv_gw, cv_ga, cv_gl, cv_pi, cv_pw, cv_pa, cv_pl, zf_S, zf_i, zf_l, mz1, mz2, mz3, mz4]
  rw [h49, show ((zpL pa : Int) - 1) = ((zpL pa - 1 : Nat) : Int) by omega]
  refine ⟨zpL pa - 1 + 1, S (zpL pa - 1) μ r 1000 t (by omega) (zfr.refl t) ?_ h56 hr0 hr1 hμ ?_ (by omega) h⟩
  · funext q
    unfold zov
    by_cases c : q < 7
    · rw [if_pos c, h55 q c]
    · rw [if_neg c]
  · have : (4 : Int) ^ (zpL pa - 1) ≤ 4 ^ 5 := by
      have hl : zpL pa - 1 = 0 ∨ zpL pa - 1 = 1 ∨ zpL pa - 1 = 2 ∨ zpL pa - 1 = 3 ∨ zpL pa - 1 = 4 ∨ zpL pa - 1 = 5 := by omega
      rcases hl with e | e | e | e | e | e <;> rw [e] <;> decide
    have := Int.mul_le_mul_of_nonneg_left this (show (0 : Int) ≤ 1000 by omega)
    omega
def zres (M p : Int) (pa : zP) (f : Nat → Int) (sm : Nat → Int) (i k : Nat) : Int := (ztd pa p (fun q => zhm M p pa (zprt M pa f i) q + k * sm q) (zhr M p pa (zprt M pa f i))).2
theorem zhm_bd {M p : Int} {pa : zP} (hv : zPv M pa) (a : Nat → Int) (q : Nat) (hq : 1 ≤ q) : 0 ≤ zhm M p pa a q ∧ zhm M p pa a q ≤ 3 := by
  unfold zhm
  by_cases c : (zhd M p pa a).2 < 0
  · rw [if_pos c]; omega
  · rw [if_neg c, if_neg (by omega)]
    by_cases c2 : q < zpL pa
    · rw [if_pos c2]
      have hR := hv.R hq c2
      have : zdg pa (zhd M p pa a).2.toNat q < zpR pa q := Nat.mod_lt _ hR.1
      omega
    · rw [if_neg c2]; omega
theorem sM_residualAt (t : tS) (pa : zP) (side i k : Nat) (sm : Nat → Int) (hP : zPR t) (hH : zHd t pa) (hK : zKy t pa) (hM : zMd t pa) (hv : zPv (tgw t) pa) (hw : zPw (tgi t 0) pa) (hits : zred (tgw t) 9 (tgl t 19)) (hs : side < 64) (hsm : ∀ q, q < 7 → tga t 42 (7 * side + q) = sm q) (hsb : ∀ q, 1 ≤ q → q < 7 → 0 ≤ sm q ∧ sm q ≤ 3) (hi : i * zpD pa (zpL pa) < 9) (hk : k ≤ 8) (hz : 0 ≤ (zhd (tgw t) (tgi t 0) pa (zprt (tgw t) pa (tgl t 19) i)).2) (Q : Int32 → mS → Prop)
    (h : ∀ u, zfr [56] [55] [8] t u → Q (i32 (zres (tgw t) (tgi t 0) pa (tgl t 19) sm i k)) (cv u)) : wM_residualAt (cv t) (i32 (zpA pa (zpL pa))) (i32 side) (i32 i) (i32 k) Q := by
  have hL6 := hv.2.1
  have hL1 := hv.1
  have h49 := hH.1
  have hW := hP.w
  have hp := hP.p
  have hDL := hv.D (k := zpL pa) hv.1 (Nat.le_refl _)
  have h51 := (hH.2.1 (zpL pa) hL1 (Nat.le_refl _)).1
  unfold wM_residualAt
  refine sM_laysRow t pa hP hH hK hv hits _ (fun ρ hr hrow => ?_)
  try simp only [zl32, zl64, i32_add, i32_sub, i32_mul, i32_neg, i64_add, i64_sub, i64_mul, i64_neg, cv_gi, cv_gw, cv_ga, cv_gl, cv_pi, cv_pw, cv_pa, cv_pl, zf_S, zf_i, zf_l, mz1, mz2, mz3, mz4, zr_ii, zr_iw, zr_ia, zr_il, zr_wi, zr_ww, zr_wa, zr_wl, zr_ai, zr_aw, zr_aa, zr_al, zr_li, zr_lw, zr_la, zr_ll, zw_ii, zw_ww, zw_aa, zw_ll, reduceIte, Nat.reduceEqDiff, if_true, if_false]
  rw [h49]
  try simp (disch := omega) only [zi9, zi7, zi40, zi360, zikj, zijd, zi9o, zi7o, zip1, zip, zim1, i32_natN, ziL, zi_0, zi_1]
  rw [h51]
  repeat' (first | (exfalso; omega) | (with_reducible refine zb_in ?_ ?_ ?_ ?_; omega; omega; omega) | (with_reducible refine zb_le ?_ ?_ ?_ ?_ (fun _ => ?_) (fun _ => ?_); omega; omega; omega; omega) | (with_reducible refine zb_lt ?_ ?_ ?_ ?_ (fun _ => ?_) (fun _ => ?_); omega; omega; omega; omega) | (with_reducible refine zb_eq ?_ ?_ ?_ ?_ (fun _ => ?_) (fun _ => ?_); omega; omega; omega; omega) | (with_reducible refine zb_leL ?_ ?_ ?_ ?_ (fun _ => ?_) (fun _ => ?_); omega; omega; omega; omega) | (with_reducible refine zb_ltL ?_ ?_ ?_ ?_ (fun _ => ?_) (fun _ => ?_); omega; omega; omega; omega) | (with_reducible refine zb_eqL ?_ ?_ ?_ ?_ (fun _ => ?_) (fun _ => ?_); omega; omega; omega; omega) | (with_reducible refine zb_nz ?_ ?_ ?_ ?_; omega; omega; omega) | (with_reducible refine zb_nzL ?_ ?_ ?_ ?_; omega; omega; omega) | with_reducible refine zb_ite ?_ | with_reducible refine zb_iteL ?_ | ((with_reducible intro y hy); subst hy; try simp only [zl32, zl64, i32_add, i32_sub, i32_mul, i32_neg, i64_add, i64_sub, i64_mul, i64_neg, cv_gi, cv_gw, cv_ga, cv_gl, cv_pi, cv_pw, cv_pa, cv_pl, zf_S, zf_i, zf_l, mz1, mz2, mz3, mz4, zr_ii, zr_iw, zr_ia, zr_il, zr_wi, zr_ww, zr_wa, zr_wl, zr_ai, zr_aw, zr_aa, zr_al, zr_li, zr_lw, zr_la, zr_ll, zw_ii, zw_ww, zw_aa, zw_ll, reduceIte, Nat.reduceEqDiff, if_true, if_false]) | with_reducible refine zb_o1 ?_ | with_reducible refine zb_o2 ?_ | with_reducible refine zb_o3 ?_ | with_reducible refine zb_o4 ?_ | with_reducible refine zb_tr ?_ | exact trivial | with_reducible refine zb_T ?_ | with_reducible refine zb_sp ?_ ?_)
  rw [show ((i : Int) * ((zpD pa (zpL pa) : Nat) : Int)) = ((i * zpD pa (zpL pa) : Nat) : Int) from (Int.natCast_mul _ _).symm]
  refine sM_head (tsl t 8 ρ) pa (zprt (tgw t) pa (tgl t 19) i) (i * zpD pa (zpL pa)) hP hH hK hv (by omega) (by rw [zr_ll, if_pos rfl]; exact hr) (zprt_red (by show 0 < tgw t; omega) hits i) (fun x hx => zpart_hi hx) (fun x hx => by rw [zr_ll, if_pos rfl]; exact hrow i x hi hx) _ (fun u hu u1 u2 u3 u4 => ?_)
  rw [show tgw (tsl t 8 ρ) = tgw t from rfl, show tgi (tsl t 8 ρ) 0 = tgi t 0 from rfl] at u3 u4
  have htu : zfr [56] [55] [8] t u := (zfr_sl (zfr.refl t) (by decide)).trans (hu.mono (by decide) (by decide) (by decide))
  have S : ∀ n x : Nat, x + n = 7 → wM_residualAt_l25 Q (i32 side) (i32 k) (n + 1) (cv (tsa u 55 (zov x (fun q => zhm (tgw t) (tgi t 0) pa (zprt (tgw t) pa (tgl t 19) i) q + k * sm q) (tga u 55)))) (i32 x) := by
    intro n
    induction n with
    | zero =>
      intro x hx
      have hx : x = 7 := by omega
      subst hx
      rw [wM_residualAt_l25]
      try simp only [zl32, zl64, i32_add, i32_sub, i32_mul, i32_neg, i64_add, i64_sub, i64_mul, i64_neg, cv_gi, cv_gw, cv_ga, cv_gl, cv_pi, cv_pw, cv_pa, cv_pl, zf_S, zf_i, zf_l, mz1, mz2, mz3, mz4]
      repeat' (first | (exfalso; omega) | (with_reducible refine zb_in ?_ ?_ ?_ ?_; omega; omega; omega) | (with_reducible refine zb_le ?_ ?_ ?_ ?_ (fun _ => ?_) (fun _ => ?_); omega; omega; omega; omega) | (with_reducible refine zb_lt ?_ ?_ ?_ ?_ (fun _ => ?_) (fun _ => ?_); omega; omega; omega; omega) | (with_reducible refine zb_eq ?_ ?_ ?_ ?_ (fun _ => ?_) (fun _ => ?_); omega; omega; omega; omega) | (with_reducible refine zb_leL ?_ ?_ ?_ ?_ (fun _ => ?_) (fun _ => ?_); omega; omega; omega; omega) | (with_reducible refine zb_ltL ?_ ?_ ?_ ?_ (fun _ => ?_) (fun _ => ?_); omega; omega; omega; omega) | (with_reducible refine zb_eqL ?_ ?_ ?_ ?_ (fun _ => ?_) (fun _ => ?_); omega; omega; omega; omega) | (with_reducible refine zb_nz ?_ ?_ ?_ ?_; omega; omega; omega) | (with_reducible refine zb_nzL ?_ ?_ ?_ ?_; omega; omega; omega) | with_reducible refine zb_ite ?_ | with_reducible refine zb_iteL ?_ | ((with_reducible intro y hy); subst hy; try simp only [zl32, zl64, i32_add, i32_sub, i32_mul, i32_neg, i64_add, i64_sub, i64_mul, i64_neg, cv_gi, cv_gw, cv_ga, cv_gl, cv_pi, cv_pw, cv_pa, cv_pl, zf_S, zf_i, zf_l, mz1, mz2, mz3, mz4, zr_ii, zr_iw, zr_ia, zr_il, zr_wi, zr_ww, zr_wa, zr_wl, zr_ai, zr_aw, zr_aa, zr_al, zr_li, zr_lw, zr_la, zr_ll, zw_ii, zw_ww, zw_aa, zw_ll, reduceIte, Nat.reduceEqDiff, if_true, if_false]) | with_reducible refine zb_o1 ?_ | with_reducible refine zb_o2 ?_ | with_reducible refine zb_o3 ?_ | with_reducible refine zb_o4 ?_ | with_reducible refine zb_tr ?_ | exact trivial | with_reducible refine zb_T ?_ | with_reducible refine zb_sp ?_ ?_)
      have hrr : 0 ≤ zhr (tgw t) (tgi t 0) pa (zprt (tgw t) pa (tgl t 19) i) ∧ zhr (tgw t) (tgi t 0) pa (zprt (tgw t) pa (tgl t 19) i) < tgi t 0 := by
        unfold zhr
        exact ⟨Int.emod_nonneg _ (by omega), Int.emod_lt_of_pos _ (by omega)⟩
      have htw : zfr [56] [55] [8] t (tsa u 55 (zov 7 (fun q => zhm (tgw t) (tgi t 0) pa (zprt (tgw t) pa (tgl t 19) i) q + k * sm q) (tga u 55))) := zfr_sa htu (by decide)
      have e0 := htw.i 0 (by decide)
      refine sM_takesDown _ pa (fun q => zhm (tgw t) (tgi t 0) pa (zprt (tgw t) pa (tgl t 19) i) q + k * sm q) (zhr (tgw t) (tgi t 0) pa (zprt (tgw t) pa (tgl t 19) i)) (htw.PR (by decide) (by decide) hP) (hH.moved htw (by decide) (by decide) (by decide) (by decide) (by decide) (by decide)) (hK.moved htw (by decide)) (hM.moved htw (by decide) (by decide)) hv (by rw [e0]; exact hw) (fun q hq => by rw [zr_aa, if_pos rfl, zov_at hq]) (by rw [zr_ia]; exact u4 hz) hrr.1 (by rw [e0]; exact hrr.2) (fun q q1 q2 => ?_) _ (fun v hv1 hv2 => ?_)
      · have a := zhm_bd (p := tgi t 0) hv (zprt (tgw t) pa (tgl t 19) i) q q1
        have b := hsb q q1 q2
        have c1 : 0 ≤ (k : Int) * sm q := Int.mul_nonneg (by omega) b.1
        have c2 : (k : Int) * sm q ≤ 8 * 3 := Int.mul_le_mul (by omega) b.2 b.1 (by omega)
        try dsimp only
        omega
      · rw [e0] at hv2
        try simp only [zl32, zl64, i32_add, i32_sub, i32_mul, i32_neg, i64_add, i64_sub, i64_mul, i64_neg, cv_gi, cv_gw, cv_ga, cv_gl, cv_pi, cv_pw, cv_pa, cv_pl, zf_S, zf_i, zf_l, mz1, mz2, mz3, mz4]
        rw [hv2]
        exact h v (htw.trans (hv1.mono (by decide) (by decide) (by decide)))
    | succ n ih =>
      intro x hx
      have e := ih (x + 1) (by omega)
      rw [← zov_s] at e
      have h42 : tga u 42 = tga t 42 := htu.a 42 (by decide)
      have ex : zov x (fun q => zhm (tgw t) (tgi t 0) pa (zprt (tgw t) pa (tgl t 19) i) q + k * sm q) (tga u 55) x = zhm (tgw t) (tgi t 0) pa (zprt (tgw t) pa (tgl t 19) i) x := by
        unfold zov
        rw [if_neg (by omega)]
        have e55 := congrFun u3 x
        unfold zov at e55
        rw [if_pos (by omega)] at e55
        exact e55
      rw [wM_residualAt_l25]
      try simp only [zl32, zl64, i32_add, i32_sub, i32_mul, i32_neg, i64_add, i64_sub, i64_mul, i64_neg, cv_gi, cv_gw, cv_ga, cv_gl, cv_pi, cv_pw, cv_pa, cv_pl, zf_S, zf_i, zf_l, mz1, mz2, mz3, mz4, zr_ii, zr_iw, zr_ia, zr_il, zr_wi, zr_ww, zr_wa, zr_wl, zr_ai, zr_aw, zr_aa, zr_al, zr_li, zr_lw, zr_la, zr_ll, zw_ii, zw_ww, zw_aa, zw_ll, reduceIte, Nat.reduceEqDiff, if_true, if_false]
      try simp (disch := omega) only [zi9, zi7, zi40, zi360, zikj, zijd, zi9o, zi7o, zip1, zip, zim1, i32_natN, ziL, zi_0, zi_1]
      rw [h42, hsm x (by omega), ex]
      repeat' (first | (exfalso; omega) | (with_reducible refine zb_in ?_ ?_ ?_ ?_; omega; omega; omega) | (with_reducible refine zb_le ?_ ?_ ?_ ?_ (fun _ => ?_) (fun _ => ?_); omega; omega; omega; omega) | (with_reducible refine zb_lt ?_ ?_ ?_ ?_ (fun _ => ?_) (fun _ => ?_); omega; omega; omega; omega) | (with_reducible refine zb_eq ?_ ?_ ?_ ?_ (fun _ => ?_) (fun _ => ?_); omega; omega; omega; omega) | (with_reducible refine zb_leL ?_ ?_ ?_ ?_ (fun _ => ?_) (fun _ => ?_); omega; omega; omega; omega) | (with_reducible refine zb_ltL ?_ ?_ ?_ ?_ (fun _ => ?_) (fun _ => ?_); omega; omega; omega; omega) | (with_reducible refine zb_eqL ?_ ?_ ?_ ?_ (fun _ => ?_) (fun _ => ?_); omega; omega; omega; omega) | (with_reducible refine zb_nz ?_ ?_ ?_ ?_; omega; omega; omega) | (with_reducible refine zb_nzL ?_ ?_ ?_ ?_; omega; omega; omega) | with_reducible refine zb_ite ?_ | with_reducible refine zb_iteL ?_ | ((with_reducible intro y hy); subst hy; try simp only [zl32, zl64, i32_add, i32_sub, i32_mul, i32_neg, i64_add, i64_sub, i64_mul, i64_neg, cv_gi, cv_gw, cv_ga, cv_gl, cv_pi, cv_pw, cv_pa, cv_pl, zf_S, zf_i, zf_l, mz1, mz2, mz3, mz4, zr_ii, zr_iw, zr_ia, zr_il, zr_wi, zr_ww, zr_wa, zr_wl, zr_ai, zr_aw, zr_aa, zr_al, zr_li, zr_lw, zr_la, zr_ll, zw_ii, zw_ww, zw_aa, zw_ll, reduceIte, Nat.reduceEqDiff, if_true, if_false]) | with_reducible refine zb_o1 ?_ | with_reducible refine zb_o2 ?_ | with_reducible refine zb_o3 ?_ | with_reducible refine zb_o4 ?_ | with_reducible refine zb_tr ?_ | exact trivial | with_reducible refine zb_T ?_ | with_reducible refine zb_sp ?_ ?_)
      exact e
  have e := S 7 0 rfl
  rw [zov_0, zw_a0] at e
  try simp only [zl32, zl64, i32_add, i32_sub, i32_mul, i32_neg, i64_add, i64_sub, i64_mul, i64_neg, cv_gi, cv_gw, cv_ga, cv_gl, cv_pi, cv_pw, cv_pa, cv_pl, zf_S, zf_i, zf_l, mz1, mz2, mz3, mz4]
  exact ⟨8, e⟩
