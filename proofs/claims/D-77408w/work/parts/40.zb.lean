/-! PURE 11: the model's head, level by level -/
set_option maxRecDepth 100000
theorem zfr_row {t u : tS} (h : zfr [] [] [8] t u) : u = tsl t 8 (tgl u 8) := by
  obtain ⟨h1, h2, h3, h4⟩ := h
  refine Prod.ext ?_ (Prod.ext h1.symm (Prod.ext ?_ ?_))
  · funext k
    exact (h2 k (by simp)).symm
  · funext k
    exact (h3 k (by simp)).symm
  · funext k
    by_cases c : k = 8
    · subst c
      rw [show (tsl t 8 (tgl u 8)).2.2.2 8 = tgl (tsl t 8 (tgl u 8)) 8 from rfl, zr_ll, if_pos rfl]
      rfl
    · rw [show (tsl t 8 (tgl u 8)).2.2.2 k = tgl (tsl t 8 (tgl u 8)) k from rfl, zr_ll, if_neg c]
      exact (h4 k (by simpa using c)).symm
/-- one level's blocks -/
theorem sM_head_l25 (t : tS) (pa : zP) (a : Nat → Int) (from_ k : Nat) (hP : zPR t) (hH : zHd t pa) (hK : zKy t pa) (hv : zPv (tgw t) pa) (hk1 : 1 ≤ k) (hk2 : k < zpL pa) (hfe : from_ + zpD pa (zpL pa) ≤ 24) (ha : ∀ x, zpD pa (zpL pa) ≤ x → a x = 0) (rec17 : mS → Int32 → Prop) (Q : Int32 → mS → Prop) (nb : Nat) (hnb : zpD pa (zpL pa) = nb * zpD pa (k + 1)) (ρ0 : Nat → Int)
    (h : ∀ ρ, zred (tgw t) 24 ρ → (∀ q, q < from_ ∨ from_ + zpD pa (zpL pa) ≤ q → ρ q = ρ0 q) → (∀ c x, x < zpD pa k → c * zpD pa k + x < zpD pa (zpL pa) → ρ (from_ + c * zpD pa k + x) = zB (tgw t) pa a (zpL pa - 1 - k + 1) c x) → rec17 (cv (tsl t 8 ρ)) (i32 ((k : Int) + -1))) :
    ∀ (m b : Nat) (ρ : Nat → Int), b + m = nb → zred (tgw t) 24 ρ → (∀ q, q < from_ ∨ from_ + zpD pa (zpL pa) ≤ q → ρ q = ρ0 q) →
      (∀ c x, c < b * zpR pa k → x < zpD pa k → ρ (from_ + c * zpD pa k + x) = zB (tgw t) pa a (zpL pa - 1 - k + 1) c x) →
      (∀ c x, b ≤ c → c < nb → x < zpD pa (k + 1) → ρ (from_ + c * zpD pa (k + 1) + x) = zB (tgw t) pa a (zpL pa - 1 - k) c x) →
      wM_head_l25 rec17 Q (i32 from_) (i32 (zpD pa (zpL pa) : Nat)) (i32 k) (m + 1) (cv (tsl t 8 ρ)) (i32 (b * zpD pa (k + 1) : Nat)) := by
  have hw := hP.w
  have hDL := hv.D (k := zpL pa) hv.1 (Nat.le_refl _)
  have hDk := hv.D hk1 (by omega)
  have hDk1 := hv.D (k := k + 1) (by omega) (by omega)
  have hRk := hv.R hk1 hk2
  have hDs := hv.Ds hk1
  have hkk := hK k hk1 (by omega)
  have e51 := (hH.2.1 k hk1 (by omega)).1
  have e53 := (hH.2.1 k hk1 (by omega)).2
  have e511 := (hH.2.1 (k + 1) (by omega) (by omega)).1
  have hL6 := hv.2.1
  intro m
  induction m with
  | zero =>
    intro b ρ hb hr ho hi hj
    have hb : b = nb := by omega
    subst hb
    rw [wM_head_l25]
    try simp only [zl32, zl64, i32_add, i32_sub, i32_mul, i32_neg, i64_add, i64_sub, i64_mul, i64_neg, cv_gi, cv_gw, cv_ga, cv_gl, cv_pi, cv_pw, cv_pa, cv_pl, zf_S, zf_i, zf_l, mz1, mz2, mz3, mz4, zr_ii, zr_iw, zr_ia, zr_il, zr_wi, zr_ww, zr_wa, zr_wl, zr_ai, zr_aw, zr_aa, zr_al, zr_li, zr_lw, zr_la, zr_ll, zw_ii, zw_ww, zw_aa, zw_ll, reduceIte, Nat.reduceEqDiff, if_true, if_false]
    rw [← hnb]
    repeat' (first | (exfalso; omega) | (with_reducible refine zb_in ?_ ?_ ?_ ?_; omega; omega; omega) | (with_reducible refine zb_le ?_ ?_ ?_ ?_ (fun _ => ?_) (fun _ => ?_); omega; omega; omega; omega) | (with_reducible refine zb_lt ?_ ?_ ?_ ?_ (fun _ => ?_) (fun _ => ?_); omega; omega; omega; omega) | (with_reducible refine zb_eq ?_ ?_ ?_ ?_ (fun _ => ?_) (fun _ => ?_); omega; omega; omega; omega) | (with_reducible refine zb_leL ?_ ?_ ?_ ?_ (fun _ => ?_) (fun _ => ?_); omega; omega; omega; omega) | (with_reducible refine zb_ltL ?_ ?_ ?_ ?_ (fun _ => ?_) (fun _ => ?_); omega; omega; omega; omega) | (with_reducible refine zb_eqL ?_ ?_ ?_ ?_ (fun _ => ?_) (fun _ => ?_); omega; omega; omega; omega) | (with_reducible refine zb_nz ?_ ?_ ?_ ?_; omega; omega; omega) | (with_reducible refine zb_nzL ?_ ?_ ?_ ?_; omega; omega; omega) | with_reducible refine zb_ite ?_ | with_reducible refine zb_iteL ?_ | ((with_reducible intro y hy); subst hy; try simp only [zl32, zl64, i32_add, i32_sub, i32_mul, i32_neg, i64_add, i64_sub, i64_mul, i64_neg, cv_gi, cv_gw, cv_ga, cv_gl, cv_pi, cv_pw, cv_pa, cv_pl, zf_S, zf_i, zf_l, mz1, mz2, mz3, mz4, zr_ii, zr_iw, zr_ia, zr_il, zr_wi, zr_ww, zr_wa, zr_wl, zr_ai, zr_aw, zr_aa, zr_al, zr_li, zr_lw, zr_la, zr_ll, zw_ii, zw_ww, zw_aa, zw_ll, reduceIte, Nat.reduceEqDiff, if_true, if_false]) | with_reducible refine zb_o1 ?_ | with_reducible refine zb_o2 ?_ | with_reducible refine zb_o3 ?_ | with_reducible refine zb_o4 ?_ | with_reducible refine zb_tr ?_ | exact trivial | with_reducible refine zb_T ?_ | with_reducible refine zb_sp ?_ ?_)
    refine h ρ hr ho (fun c x hx hc => hi c x ?_ hx)
    rw [hnb, hDs] at hc
    have : c * zpD pa k < b * zpR pa k * zpD pa k := by
      rw [Nat.mul_assoc, Nat.mul_comm (zpR pa k)]
      omega
    exact Nat.lt_of_mul_lt_mul_right this
  | succ m ih =>
    intro b ρ hb hr ho hi hj
    have hbe : (b + 1) * zpD pa (k + 1) ≤ zpD pa (zpL pa) := by
      rw [hnb]
      exact Nat.mul_le_mul_right _ (by omega)
    rw [Nat.succ_mul] at hbe
    rw [wM_head_l25]
    try simp only [zl32, zl64, i32_add, i32_sub, i32_mul, i32_neg, i64_add, i64_sub, i64_mul, i64_neg, cv_gi, cv_gw, cv_ga, cv_gl, cv_pi, cv_pw, cv_pa, cv_pl, zf_S, zf_i, zf_l, mz1, mz2, mz3, mz4, zr_ii, zr_iw, zr_ia, zr_il, zr_wi, zr_ww, zr_wa, zr_wl, zr_ai, zr_aw, zr_aa, zr_al, zr_li, zr_lw, zr_la, zr_ll, zw_ii, zw_ww, zw_aa, zw_ll, reduceIte, Nat.reduceEqDiff, if_true, if_false]
    repeat' (first | (exfalso; omega) | (with_reducible refine zb_in ?_ ?_ ?_ ?_; omega; omega; omega) | (with_reducible refine zb_le ?_ ?_ ?_ ?_ (fun _ => ?_) (fun _ => ?_); omega; omega; omega; omega) | (with_reducible refine zb_lt ?_ ?_ ?_ ?_ (fun _ => ?_) (fun _ => ?_); omega; omega; omega; omega) | (with_reducible refine zb_eq ?_ ?_ ?_ ?_ (fun _ => ?_) (fun _ => ?_); omega; omega; omega; omega) | (with_reducible refine zb_leL ?_ ?_ ?_ ?_ (fun _ => ?_) (fun _ => ?_); omega; omega; omega; omega) | (with_reducible refine zb_ltL ?_ ?_ ?_ ?_ (fun _ => ?_) (fun _ => ?_); omega; omega; omega; omega) | (with_reducible refine zb_eqL ?_ ?_ ?_ ?_ (fun _ => ?_) (fun _ => ?_); omega; omega; omega; omega) | (with_reducible refine zb_nz ?_ ?_ ?_ ?_; omega; omega; omega) | (with_reducible refine zb_nzL ?_ ?_ ?_ ?_; omega; omega; omega) | with_reducible refine zb_ite ?_ | with_reducible refine zb_iteL ?_ | ((with_reducible intro y hy); subst hy; try simp only [zl32, zl64, i32_add, i32_sub, i32_mul, i32_neg, i64_add, i64_sub, i64_mul, i64_neg, cv_gi, cv_gw, cv_ga, cv_gl, cv_pi, cv_pw, cv_pa, cv_pl, zf_S, zf_i, zf_l, mz1, mz2, mz3, mz4, zr_ii, zr_iw, zr_ia, zr_il, zr_wi, zr_ww, zr_wa, zr_wl, zr_ai, zr_aw, zr_aa, zr_al, zr_li, zr_lw, zr_la, zr_ll, zw_ii, zw_ww, zw_aa, zw_ll, reduceIte, Nat.reduceEqDiff, if_true, if_false]) | with_reducible refine zb_o1 ?_ | with_reducible refine zb_o2 ?_ | with_reducible refine zb_o3 ?_ | with_reducible refine zb_o4 ?_ | with_reducible refine zb_tr ?_ | exact trivial | with_reducible refine zb_T ?_ | with_reducible refine zb_sp ?_ ?_)
    try simp (disch := omega) only [zi9, zi7, zi40, zi360, zikj, zijd, zi9o, zi7o, zip1, zip, zim1, i32_natN, ziL, zi_0, zi_1]
    repeat' (first | (exfalso; omega) | (with_reducible refine zb_in ?_ ?_ ?_ ?_; omega; omega; omega) | (with_reducible refine zb_le ?_ ?_ ?_ ?_ (fun _ => ?_) (fun _ => ?_); omega; omega; omega; omega) | (with_reducible refine zb_lt ?_ ?_ ?_ ?_ (fun _ => ?_) (fun _ => ?_); omega; omega; omega; omega) | (with_reducible refine zb_eq ?_ ?_ ?_ ?_ (fun _ => ?_) (fun _ => ?_); omega; omega; omega; omega) | (with_reducible refine zb_leL ?_ ?_ ?_ ?_ (fun _ => ?_) (fun _ => ?_); omega; omega; omega; omega) | (with_reducible refine zb_ltL ?_ ?_ ?_ ?_ (fun _ => ?_) (fun _ => ?_); omega; omega; omega; omega) | (with_reducible refine zb_eqL ?_ ?_ ?_ ?_ (fun _ => ?_) (fun _ => ?_); omega; omega; omega; omega) | (with_reducible refine zb_nz ?_ ?_ ?_ ?_; omega; omega; omega) | (with_reducible refine zb_nzL ?_ ?_ ?_ ?_; omega; omega; omega) | with_reducible refine zb_ite ?_ | with_reducible refine zb_iteL ?_ | ((with_reducible intro y hy); subst hy; try simp only [zl32, zl64, i32_add, i32_sub, i32_mul, i32_neg, i64_add, i64_sub, i64_mul, i64_neg, cv_gi, cv_gw, cv_ga, cv_gl, cv_pi, cv_pw, cv_pa, cv_pl, zf_S, zf_i, zf_l, mz1, mz2, mz3, mz4, zr_ii, zr_iw, zr_ia, zr_il, zr_wi, zr_ww, zr_wa, zr_wl, zr_ai, zr_aw, zr_aa, zr_al, zr_li, zr_lw, zr_la, zr_ll, zw_ii, zw_ww, zw_aa, zw_ll, reduceIte, Nat.reduceEqDiff, if_true, if_false]) | with_reducible refine zb_o1 ?_ | with_reducible refine zb_o2 ?_ | with_reducible refine zb_o3 ?_ | with_reducible refine zb_o4 ?_ | with_reducible refine zb_tr ?_ | exact trivial | with_reducible refine zb_T ?_ | with_reducible refine zb_sp ?_ ?_)
    rw [e51, e511, e53]
    rw [show (9 : Int) * ((zpA pa k : Nat) : Int) = ((9 * zpA pa k : Nat) : Int) by omega, show ((from_ : Int) + ((b * zpD pa (k + 1) : Nat) : Int)) = ((from_ + b * zpD pa (k + 1) : Nat) : Int) by omega]
    have hkey : ∀ q, q < zpD pa k → zkey (tsl t 8 ρ) (9 * zpA pa k) q = zpK pa k q := by
      intro q hq
      unfold zkey
      rw [zr_ll, if_neg (by decide)]
      exact hkk.2 q (by omega)
    refine sM_splits (tsl t 8 ρ) (from_ + b * zpD pa (k + 1)) (zpD pa (k + 1)) (9 * zpA pa k) (zpD pa k) (by omega) hDk.1 (by omega) hP (by rw [zr_ll, if_pos rfl, zr_wl]; exact hr) (by
      intro q hq
      rw [hkey q hq, zr_wl]
      exact hv.2.2.2.2.2 k hk1 (by omega) q (by omega)) _ ?_
    try simp only [zl32, zl64, i32_add, i32_sub, i32_mul, i32_neg, i64_add, i64_sub, i64_mul, i64_neg, cv_gi, cv_gw, cv_ga, cv_gl, cv_pi, cv_pw, cv_pa, cv_pl, zf_S, zf_i, zf_l, mz1, mz2, mz3, mz4, zr_ii, zr_iw, zr_ia, zr_il, zr_wi, zr_ww, zr_wa, zr_wl, zr_ai, zr_aw, zr_aa, zr_al, zr_li, zr_lw, zr_la, zr_ll, zw_ii, zw_ww, zw_aa, zw_ll, reduceIte, Nat.reduceEqDiff, if_true, if_false]
    rw [zspl_g hkey]
    try simp (disch := omega) only [zi9, zi7, zi40, zi360, zikj, zijd, zi9o, zi7o, zip1, zip, zim1, i32_natN, ziL, zi_0, zi_1]
    repeat' (first | (exfalso; omega) | (with_reducible refine zb_in ?_ ?_ ?_ ?_; omega; omega; omega) | (with_reducible refine zb_le ?_ ?_ ?_ ?_ (fun _ => ?_) (fun _ => ?_); omega; omega; omega; omega) | (with_reducible refine zb_lt ?_ ?_ ?_ ?_ (fun _ => ?_) (fun _ => ?_); omega; omega; omega; omega) | (with_reducible refine zb_eq ?_ ?_ ?_ ?_ (fun _ => ?_) (fun _ => ?_); omega; omega; omega; omega) | (with_reducible refine zb_leL ?_ ?_ ?_ ?_ (fun _ => ?_) (fun _ => ?_); omega; omega; omega; omega) | (with_reducible refine zb_ltL ?_ ?_ ?_ ?_ (fun _ => ?_) (fun _ => ?_); omega; omega; omega; omega) | (with_reducible refine zb_eqL ?_ ?_ ?_ ?_ (fun _ => ?_) (fun _ => ?_); omega; omega; omega; omega) | (with_reducible refine zb_nz ?_ ?_ ?_ ?_; omega; omega; omega) | (with_reducible refine zb_nzL ?_ ?_ ?_ ?_; omega; omega; omega) | with_reducible refine zb_ite ?_ | with_reducible refine zb_iteL ?_ | ((with_reducible intro y hy); subst hy; try simp only [zl32, zl64, i32_add, i32_sub, i32_mul, i32_neg, i64_add, i64_sub, i64_mul, i64_neg, cv_gi, cv_gw, cv_ga, cv_gl, cv_pi, cv_pw, cv_pa, cv_pl, zf_S, zf_i, zf_l, mz1, mz2, mz3, mz4, zr_ii, zr_iw, zr_ia, zr_il, zr_wi, zr_ww, zr_wa, zr_wl, zr_ai, zr_aw, zr_aa, zr_al, zr_li, zr_lw, zr_la, zr_ll, zw_ii, zw_ww, zw_aa, zw_ll, reduceIte, Nat.reduceEqDiff, if_true, if_false]) | with_reducible refine zb_o1 ?_ | with_reducible refine zb_o2 ?_ | with_reducible refine zb_o3 ?_ | with_reducible refine zb_o4 ?_ | with_reducible refine zb_tr ?_ | exact trivial | with_reducible refine zb_T ?_ | with_reducible refine zb_sp ?_ ?_)
    have hwin : zwn (from_ + b * zpD pa (k + 1)) (from_ + b * zpD pa (k + 1) + zpD pa (k + 1)) ρ = zB (tgw t) pa a (zpL pa - 1 - k) b := by
      funext x
      unfold zwn
      by_cases c : x < zpD pa (k + 1)
      · rw [if_pos (by omega)]
        exact hj b x (Nat.le_refl _) (by omega) c
      · rw [if_neg (by omega)]
        refine (zB_hi ha _ _ _ (by omega) ?_).symm
        rw [show zpL pa - (zpL pa - 1 - k) = k + 1 by omega]
        omega
    rw [e511, show (((b * zpD pa (k + 1) : Nat) : Int) + ((zpD pa (k + 1) : Nat) : Int)) = (((b + 1) * zpD pa (k + 1) : Nat) : Int) by rw [Nat.succ_mul]; omega]
    refine ih (b + 1) _ (by omega) (zred_zspl (by omega) _ _ _ hr) (fun q hq => ?_) (fun c x hc hx => ?_) (fun c x hc hc2 hx => ?_)
    · rcases hq with hq | hq
      · rw [zspl_lo _ _ _ (by omega)]
        exact ho q (Or.inl hq)
      · rw [zspl_hi (by omega)]
        exact ho q (Or.inr hq)
    · by_cases c1 : c < b * zpR pa k
      · have : c * zpD pa k + zpD pa k ≤ b * zpD pa (k + 1) := by
          rw [hDs, ← Nat.succ_mul, Nat.mul_comm (zpD pa k), ← Nat.mul_assoc]
          exact Nat.mul_le_mul_right _ c1
        rw [zspl_lo _ _ _ (by omega)]
        exact hi c x c1 hx
      · obtain ⟨q, hq⟩ : ∃ q, c = b * zpR pa k + q := ⟨c - b * zpR pa k, by omega⟩
        rw [Nat.succ_mul] at hc
        have hqR : q < zpR pa k := by omega
        have hcx : c * zpD pa k = b * zpD pa (k + 1) + q * zpD pa k := by
          rw [hq, Nat.add_mul, hDs, Nat.mul_assoc, Nat.mul_comm (zpR pa k)]
        have hqx : q * zpD pa k + x < zpD pa (k + 1) := by
          rw [hDs, Nat.mul_comm (zpD pa k)]
          have : (q + 1) * zpD pa k ≤ zpR pa k * zpD pa k := Nat.mul_le_mul_right _ hqR
          rw [Nat.succ_mul] at this
          omega
        rw [hcx, show from_ + (b * zpD pa (k + 1) + q * zpD pa k) + x = (from_ + b * zpD pa (k + 1)) + q * zpD pa k + x by omega]
        rw [zspl_part (by omega) hDk.1 _ _ _ (by omega) (by omega) (by omega) (fun q h1 h2 => hr q (by omega)) q x hx (by omega), hwin]
        conv => rhs; unfold zB
        rw [show zpL pa - 1 - (zpL pa - 1 - k) = k by omega, hq, Nat.mul_comm b, Nat.mul_add_mod, Nat.mod_eq_of_lt hqR, Nat.mul_add_div (by omega), Nat.div_eq_of_lt hqR, Nat.add_zero]
    · have : (b + 1) * zpD pa (k + 1) ≤ c * zpD pa (k + 1) := Nat.mul_le_mul_right _ hc
      rw [Nat.succ_mul] at this
      rw [zspl_hi (by omega)]
      exact hj c x (by omega) hc2 hx
/-- all levels -/
theorem sM_head_l17 (t : tS) (pa : zP) (a : Nat → Int) (from_ : Nat) (hP : zPR t) (hH : zHd t pa) (hK : zKy t pa) (hv : zPv (tgw t) pa) (hfe : from_ + zpD pa (zpL pa) ≤ 24) (ha : ∀ x, zpD pa (zpL pa) ≤ x → a x = 0) (Q : Int32 → mS → Prop) (ρ0 : Nat → Int)
    (h : ∀ ρ, zred (tgw t) 24 ρ → (∀ q, q < from_ ∨ from_ + zpD pa (zpL pa) ≤ q → ρ q = ρ0 q) → (∀ c, c < zpD pa (zpL pa) → ρ (from_ + c) = zcf (tgw t) pa a c) → ∃ k92 : Nat, wM_head_l92 Q (cv (tsl t 8 ρ)) (i32 from_) (i32 (zpD pa (zpL pa) : Nat)) k92 (i32 (-1)) (i32 (-1)) (i32 0)) :
    ∀ (k : Nat) (ρ : Nat → Int), k < zpL pa → zred (tgw t) 24 ρ → (∀ q, q < from_ ∨ from_ + zpD pa (zpL pa) ≤ q → ρ q = ρ0 q) →
      (∀ c x, x < zpD pa (k + 1) → c * zpD pa (k + 1) + x < zpD pa (zpL pa) → ρ (from_ + c * zpD pa (k + 1) + x) = zB (tgw t) pa a (zpL pa - 1 - k) c x) →
      wM_head_l17 Q (i32 from_) (i32 (zpD pa (zpL pa) : Nat)) (k + 1) (cv (tsl t 8 ρ)) (i32 k) := by
  have hL6 := hv.2.1
  intro k
  induction k with
  | zero =>
    intro ρ hk hr ho hi
    rw [wM_head_l17]
    try simp only [zl32, zl64, i32_add, i32_sub, i32_mul, i32_neg, i64_add, i64_sub, i64_mul, i64_neg, cv_gi, cv_gw, cv_ga, cv_gl, cv_pi, cv_pw, cv_pa, cv_pl, zf_S, zf_i, zf_l, mz1, mz2, mz3, mz4]
    repeat' (first | (exfalso; omega) | (with_reducible refine zb_in ?_ ?_ ?_ ?_; omega; omega; omega) | (with_reducible refine zb_le ?_ ?_ ?_ ?_ (fun _ => ?_) (fun _ => ?_); omega; omega; omega; omega) | (with_reducible refine zb_lt ?_ ?_ ?_ ?_ (fun _ => ?_) (fun _ => ?_); omega; omega; omega; omega) | (with_reducible refine zb_eq ?_ ?_ ?_ ?_ (fun _ => ?_) (fun _ => ?_); omega; omega; omega; omega) | (with_reducible refine zb_leL ?_ ?_ ?_ ?_ (fun _ => ?_) (fun _ => ?_); omega; omega; omega; omega) | (with_reducible refine zb_ltL ?_ ?_ ?_ ?_ (fun _ => ?_) (fun _ => ?_); omega; omega; omega; omega) | (with_reducible refine zb_eqL ?_ ?_ ?_ ?_ (fun _ => ?_) (fun _ => ?_); omega; omega; omega; omega) | (with_reducible refine zb_nz ?_ ?_ ?_ ?_; omega; omega; omega) | (with_reducible refine zb_nzL ?_ ?_ ?_ ?_; omega; omega; omega) | with_reducible refine zb_ite ?_ | with_reducible refine zb_iteL ?_ | ((with_reducible intro y hy); subst hy; try simp only [zl32, zl64, i32_add, i32_sub, i32_mul, i32_neg, i64_add, i64_sub, i64_mul, i64_neg, cv_gi, cv_gw, cv_ga, cv_gl, cv_pi, cv_pw, cv_pa, cv_pl, zf_S, zf_i, zf_l, mz1, mz2, mz3, mz4, zr_ii, zr_iw, zr_ia, zr_il, zr_wi, zr_ww, zr_wa, zr_wl, zr_ai, zr_aw, zr_aa, zr_al, zr_li, zr_lw, zr_la, zr_ll, zw_ii, zw_ww, zw_aa, zw_ll, reduceIte, Nat.reduceEqDiff, if_true, if_false]) | with_reducible refine zb_o1 ?_ | with_reducible refine zb_o2 ?_ | with_reducible refine zb_o3 ?_ | with_reducible refine zb_o4 ?_ | with_reducible refine zb_tr ?_ | exact trivial | with_reducible refine zb_T ?_ | with_reducible refine zb_sp ?_ ?_)
    refine h ρ hr ho (fun c hc => ?_)
    have e := hi c 0 (by rw [show zpD pa (0 + 1) = 1 from zD_1 _]; omega) (by rw [show zpD pa (0 + 1) = 1 from zD_1 _]; omega)
    rw [show zpD pa (0 + 1) = 1 from zD_1 _, Nat.mul_one, Nat.add_zero, Nat.sub_zero] at e
    exact e
  | succ k ih =>
    intro ρ hk hr ho hi
    obtain ⟨hd1, hd2, nb, hnb, hnb1⟩ := hv.D (k := k + 1 + 1) (by omega) (by omega)
    rw [wM_head_l17]
    try simp only [zl32, zl64, i32_add, i32_sub, i32_mul, i32_neg, i64_add, i64_sub, i64_mul, i64_neg, cv_gi, cv_gw, cv_ga, cv_gl, cv_pi, cv_pw, cv_pa, cv_pl, zf_S, zf_i, zf_l, mz1, mz2, mz3, mz4]
    repeat' (first | (exfalso; omega) | (with_reducible refine zb_in ?_ ?_ ?_ ?_; omega; omega; omega) | (with_reducible refine zb_le ?_ ?_ ?_ ?_ (fun _ => ?_) (fun _ => ?_); omega; omega; omega; omega) | (with_reducible refine zb_lt ?_ ?_ ?_ ?_ (fun _ => ?_) (fun _ => ?_); omega; omega; omega; omega) | (with_reducible refine zb_eq ?_ ?_ ?_ ?_ (fun _ => ?_) (fun _ => ?_); omega; omega; omega; omega) | (with_reducible refine zb_leL ?_ ?_ ?_ ?_ (fun _ => ?_) (fun _ => ?_); omega; omega; omega; omega) | (with_reducible refine zb_ltL ?_ ?_ ?_ ?_ (fun _ => ?_) (fun _ => ?_); omega; omega; omega; omega) | (with_reducible refine zb_eqL ?_ ?_ ?_ ?_ (fun _ => ?_) (fun _ => ?_); omega; omega; omega; omega) | (with_reducible refine zb_nz ?_ ?_ ?_ ?_; omega; omega; omega) | (with_reducible refine zb_nzL ?_ ?_ ?_ ?_; omega; omega; omega) | with_reducible refine zb_ite ?_ | with_reducible refine zb_iteL ?_ | ((with_reducible intro y hy); subst hy; try simp only [zl32, zl64, i32_add, i32_sub, i32_mul, i32_neg, i64_add, i64_sub, i64_mul, i64_neg, cv_gi, cv_gw, cv_ga, cv_gl, cv_pi, cv_pw, cv_pa, cv_pl, zf_S, zf_i, zf_l, mz1, mz2, mz3, mz4, zr_ii, zr_iw, zr_ia, zr_il, zr_wi, zr_ww, zr_wa, zr_wl, zr_ai, zr_aw, zr_aa, zr_al, zr_li, zr_lw, zr_la, zr_ll, zw_ii, zw_ww, zw_aa, zw_ll, reduceIte, Nat.reduceEqDiff, if_true, if_false]) | with_reducible refine zb_o1 ?_ | with_reducible refine zb_o2 ?_ | with_reducible refine zb_o3 ?_ | with_reducible refine zb_o4 ?_ | with_reducible refine zb_tr ?_ | exact trivial | with_reducible refine zb_T ?_ | with_reducible refine zb_sp ?_ ?_)
    refine ⟨nb + 1, ?_⟩
    have e := sM_head_l25 t pa a from_ (k + 1) hP hH hK hv (by omega) hk hfe ha (fun z z3 => wM_head_l17 Q (i32 from_) (i32 (zpD pa (zpL pa) : Nat)) (k + 1) z z3) Q nb hnb ρ0 (fun ρ' a1 a2 a3 => by
      rw [show ((k + 1 : Nat) : Int) + -1 = (k : Int) by omega]
      refine ih ρ' (by omega) a1 a2 (fun c x hx hc => ?_)
      rw [a3 c x hx hc, show zpL pa - 1 - k = zpL pa - 1 - (k + 1) + 1 by omega]) nb 0 ρ (by omega) hr ho (fun c x hc _ => by omega) (fun c x _ hc hx => hi c x hx (by
        rw [hnb]
        have : (c + 1) * zpD pa (k + 1 + 1) ≤ nb * zpD pa (k + 1 + 1) := Nat.mul_le_mul_right _ hc
        rw [Nat.succ_mul] at this
        omega))
    rw [Nat.zero_mul] at e
    exact e
theorem zhs_bd {M : Int} {pa : zP} (hv : zPv M pa) (j : Nat) : ∀ n : Nat, n < zpL pa → 0 ≤ zhs pa j n ∧ zhs pa j n ≤ n * 20736 := by
  intro n
  induction n with
  | zero => intro _; exact ⟨Int.le_refl _, by unfold zhs; omega⟩
  | succ n ih =>
    intro hn
    have e := ih (by omega)
    have hR := hv.R (k := n + 1) (by omega) hn
    have hS := hv.2.2.2.2.1 (n + 1) (by omega) hn
    have hd : zdg pa j (n + 1) < zpR pa (n + 1) := Nat.mod_lt _ hR.1
    have hq : zpD pa (zpL pa) / zpD pa (n + 2) ≤ 4 := Nat.le_trans (Nat.div_le_self _ _) hv.2.2.2.1
    unfold zhs
    revert hq
    generalize zpD pa (zpL pa) / zpD pa (n + 2) = qq
    intro hq
    have h1 : 0 ≤ (zdg pa j (n + 1) : Int) * zpS pa (n + 1) := Int.mul_nonneg (by omega) hS.1
    have h2 : (zdg pa j (n + 1) : Int) * zpS pa (n + 1) ≤ 3 * 1728 := Int.mul_le_mul (by omega) hS.2 hS.1 (by omega)
    have h3 : 0 ≤ (zdg pa j (n + 1) : Int) * zpS pa (n + 1) * (qq : Int) := Int.mul_nonneg h1 (by omega)
    have h4 : (zdg pa j (n + 1) : Int) * zpS pa (n + 1) * (qq : Int) ≤ (3 * 1728) * 4 := Int.mul_le_mul h2 (by omega) (by omega) (by omega)
    omega
theorem zhv_bd {M p : Int} {pa : zP} (hv : zPv M pa) (c : Int) (j : Nat) : 0 ≤ zhv p pa c j ∧ zhv p pa c j ≤ 200000 := by
  have e := zhs_bd hv j (zpL pa - 1) (by have := hv.1; omega)
  have hL := hv.2.1
  have h4 := hv.2.2.2.1
  have hb : zval p c ≤ 30 := zvl_bd 30 c
  have h1 : 0 ≤ (zpD pa (zpL pa) : Int) * (zval p c : Int) := Int.mul_nonneg (by omega) (by omega)
  have h2 : (zpD pa (zpL pa) : Int) * (zval p c : Int) ≤ 4 * 30 := Int.mul_le_mul (by omega) (by omega) (by omega) (by omega)
  unfold zhv
  omega
theorem zbs_bd {M p : Int} {pa : zP} (hv : zPv M pa) (a : Nat → Int) : ∀ j : Nat, -1 ≤ (zbs M p pa a j).1 ∧ (zbs M p pa a j).1 ≤ 200000 ∧ -1 ≤ (zbs M p pa a j).2 ∧ (zbs M p pa a j).2 < j ∧ ((zbs M p pa a j).1 < 0 ↔ (zbs M p pa a j).2 < 0) := by
  intro j
  induction j with
  | zero =>
    unfold zbs
    exact ⟨by decide, by decide, by decide, by decide, by decide⟩
  | succ j ih =>
    unfold zbs
    have b := zhv_bd (p := p) hv (zcf M pa a j) j
    by_cases c : zcf M pa a j = 0
    · rw [if_pos c]
      omega
    · rw [if_neg c]
      by_cases c2 : (zbs M p pa a j).1 < 0 ∨ zhv p pa (zcf M pa a j) j < (zbs M p pa a j).1
      · rw [if_pos c2]
        dsimp only
        omega
      · rw [if_neg c2]
        omega
theorem i32_ite {c : Prop} {q : Decidable c} (a b : Int) : @ite _ c q (i32 a) (i32 b) = i32 (@ite _ c q a b) := by
  by_cases h : c
  · rw [if_pos h, if_pos h]
  · rw [if_neg h, if_neg h]
theorem sM_head_l132 (t : tS) (pa : zP) (hH : zHd t pa) {M : Int} (hv : zPv M pa) (rec92 : Int32 → Int32 → Int32 → Prop) (Q : Int32 → mS → Prop) (x1 : Int32) (b ba : Int) (j : Nat) (v0 : Int) (hv0 : 0 ≤ v0) (hv1 : v0 ≤ 120) (hj : j < 4) (hb : -1 ≤ b) (hb2 : b ≤ 200000)
    (h : rec92 (i32 (if b < 0 ∨ v0 + zhs pa j (zpL pa - 1) < b then v0 + zhs pa j (zpL pa - 1) else b)) (i32 (if b < 0 ∨ v0 + zhs pa j (zpL pa - 1) < b then (j : Int) else ba)) (i32 ((j : Int) + 1))) :
    ∀ m n : Nat, n + m = zpL pa - 1 → wM_head_l132 rec92 Q (cv t) x1 (i32 (zpD pa (zpL pa) : Nat)) (i32 b) (i32 ba) (i32 j) (m + 1) (i32 (v0 + zhs pa j n)) (i32 ((n : Int) + 1)) := by
  have hL6 := hv.2.1
  have hL1 := hv.1
  have h49 := hH.1
  intro m
  induction m with
  | zero =>
    intro n hn
    have hn : n = zpL pa - 1 := by omega
    have e := zhs_bd hv j n (by omega)
    subst hn
    rw [wM_head_l132]
    try simp only [zl32, zl64, i32_add, i32_sub, i32_mul, i32_neg, i64_add, i64_sub, i64_mul, i64_neg, cv_gi, cv_gw, cv_ga, cv_gl, cv_pi, cv_pw, cv_pa, cv_pl, zf_S, zf_i, zf_l, mz1, mz2, mz3, mz4, zr_ii, zr_iw, zr_ia, zr_il, zr_wi, zr_ww, zr_wa, zr_wl, zr_ai, zr_aw, zr_aa, zr_al, zr_li, zr_lw, zr_la, zr_ll, zw_ii, zw_ww, zw_aa, zw_ll, reduceIte, Nat.reduceEqDiff, if_true, if_false]
    rw [h49]
    repeat' (first | (exfalso; omega) | (with_reducible refine zb_in ?_ ?_ ?_ ?_; omega; omega; omega) | (with_reducible refine zb_le ?_ ?_ ?_ ?_ (fun _ => ?_) (fun _ => ?_); omega; omega; omega; omega) | (with_reducible refine zb_lt ?_ ?_ ?_ ?_ (fun _ => ?_) (fun _ => ?_); omega; omega; omega; omega) | (with_reducible refine zb_eq ?_ ?_ ?_ ?_ (fun _ => ?_) (fun _ => ?_); omega; omega; omega; omega) | (with_reducible refine zb_leL ?_ ?_ ?_ ?_ (fun _ => ?_) (fun _ => ?_); omega; omega; omega; omega) | (with_reducible refine zb_ltL ?_ ?_ ?_ ?_ (fun _ => ?_) (fun _ => ?_); omega; omega; omega; omega) | (with_reducible refine zb_eqL ?_ ?_ ?_ ?_ (fun _ => ?_) (fun _ => ?_); omega; omega; omega; omega) | (with_reducible refine zb_nz ?_ ?_ ?_ ?_; omega; omega; omega) | (with_reducible refine zb_nzL ?_ ?_ ?_ ?_; omega; omega; omega) | with_reducible refine zb_ite ?_ | with_reducible refine zb_iteL ?_ | ((with_reducible intro y hy); subst hy; try simp only [zl32, zl64, i32_add, i32_sub, i32_mul, i32_neg, i64_add, i64_sub, i64_mul, i64_neg, cv_gi, cv_gw, cv_ga, cv_gl, cv_pi, cv_pw, cv_pa, cv_pl, zf_S, zf_i, zf_l, mz1, mz2, mz3, mz4, zr_ii, zr_iw, zr_ia, zr_il, zr_wi, zr_ww, zr_wa, zr_wl, zr_ai, zr_aw, zr_aa, zr_al, zr_li, zr_lw, zr_la, zr_ll, zw_ii, zw_ww, zw_aa, zw_ll, reduceIte, Nat.reduceEqDiff, if_true, if_false]) | with_reducible refine zb_o1 ?_ | with_reducible refine zb_o2 ?_ | with_reducible refine zb_o3 ?_ | with_reducible refine zb_o4 ?_ | with_reducible refine zb_tr ?_ | exact trivial | with_reducible refine zb_T ?_ | with_reducible refine zb_sp ?_ ?_)
    · rw [if_pos (by omega), if_pos (by omega)] at h
      exact h
    · rw [if_neg (by omega), if_neg (by omega)] at h
      exact h
    · rw [if_pos (by omega), if_pos (by omega)] at h
      exact h
  | succ m ih =>
    intro n hn
    have e := zhs_bd hv j n (by omega)
    have e2 := zhs_bd hv j (n + 1) (by omega)
    have hD := hv.D (k := n + 1) (by omega) (by omega)
    have hD2 := hv.D (k := n + 2) (by omega) (by omega)
    have hD3 := hv.D (k := zpL pa) (by omega) (by omega)
    have hR := hv.R (k := n + 1) (by omega) (by omega)
    have hS := hv.2.2.2.2.1 (n + 1) (by omega) (by omega)
    have a1 := (hH.2.1 (n + 1) (by omega) (by omega)).1
    have a2 := (hH.2.1 (n + 2) (by omega) (by omega)).1
    have a3 := hH.2.2 (n + 1) (by omega) (by omega)
    have ihe := ih (n + 1) (by omega)
    unfold zhs at ihe
    rw [wM_head_l132]
    try simp only [zl32, zl64, i32_add, i32_sub, i32_mul, i32_neg, i64_add, i64_sub, i64_mul, i64_neg, cv_gi, cv_gw, cv_ga, cv_gl, cv_pi, cv_pw, cv_pa, cv_pl, zf_S, zf_i, zf_l, mz1, mz2, mz3, mz4, zr_ii, zr_iw, zr_ia, zr_il, zr_wi, zr_ww, zr_wa, zr_wl, zr_ai, zr_aw, zr_aa, zr_al, zr_li, zr_lw, zr_la, zr_ll, zw_ii, zw_ww, zw_aa, zw_ll, reduceIte, Nat.reduceEqDiff, if_true, if_false]
    rw [h49]
    rw [show ((n : Int) + 1 + 1) = ((n + 2 : Nat) : Int) by omega, show ((n : Int) + 1) = ((n + 1 : Nat) : Int) by omega]
    try simp (disch := omega) only [zi9, zi7, zi40, zi360, zikj, zijd, zi9o, zi7o, zip1, zip, zim1, i32_natN, ziL, zi_0, zi_1]
    rw [a1, a2, a3.1, a3.2.1]
    repeat' (first | (exfalso; omega) | (with_reducible refine zb_in ?_ ?_ ?_ ?_; omega; omega; omega) | (with_reducible refine zb_le ?_ ?_ ?_ ?_ (fun _ => ?_) (fun _ => ?_); omega; omega; omega; omega) | (with_reducible refine zb_lt ?_ ?_ ?_ ?_ (fun _ => ?_) (fun _ => ?_); omega; omega; omega; omega) | (with_reducible refine zb_eq ?_ ?_ ?_ ?_ (fun _ => ?_) (fun _ => ?_); omega; omega; omega; omega) | (with_reducible refine zb_leL ?_ ?_ ?_ ?_ (fun _ => ?_) (fun _ => ?_); omega; omega; omega; omega) | (with_reducible refine zb_ltL ?_ ?_ ?_ ?_ (fun _ => ?_) (fun _ => ?_); omega; omega; omega; omega) | (with_reducible refine zb_eqL ?_ ?_ ?_ ?_ (fun _ => ?_) (fun _ => ?_); omega; omega; omega; omega) | (with_reducible refine zb_nz ?_ ?_ ?_ ?_; omega; omega; omega) | (with_reducible refine zb_nzL ?_ ?_ ?_ ?_; omega; omega; omega) | with_reducible refine zb_ite ?_ | with_reducible refine zb_iteL ?_ | ((with_reducible intro y hy); subst hy; try simp only [zl32, zl64, i32_add, i32_sub, i32_mul, i32_neg, i64_add, i64_sub, i64_mul, i64_neg, cv_gi, cv_gw, cv_ga, cv_gl, cv_pi, cv_pw, cv_pa, cv_pl, zf_S, zf_i, zf_l, mz1, mz2, mz3, mz4, zr_ii, zr_iw, zr_ia, zr_il, zr_wi, zr_ww, zr_wa, zr_wl, zr_ai, zr_aw, zr_aa, zr_al, zr_li, zr_lw, zr_la, zr_ll, zw_ii, zw_ww, zw_aa, zw_ll, reduceIte, Nat.reduceEqDiff, if_true, if_false]) | with_reducible refine zb_o1 ?_ | with_reducible refine zb_o2 ?_ | with_reducible refine zb_o3 ?_ | with_reducible refine zb_o4 ?_ | with_reducible refine zb_tr ?_ | exact trivial | with_reducible refine zb_T ?_ | with_reducible refine zb_sp ?_ ?_)
    rw [i32_div (a := (j : Int)) (b := ((zpD pa (n + 1) : Nat) : Int)) (by omega) (by omega) (by omega) (by omega), i32_div (a := ((zpD pa (zpL pa) : Nat) : Int)) (b := ((zpD pa (n + 2) : Nat) : Int)) (by omega) (by omega) (by omega) (by omega)]
    rw [show (j : Int).tdiv (zpD pa (n + 1) : Nat) = ((j / zpD pa (n + 1) : Nat) : Int) from rfl, show ((zpD pa (zpL pa) : Nat) : Int).tdiv (zpD pa (n + 2) : Nat) = ((zpD pa (zpL pa) / zpD pa (n + 2) : Nat) : Int) from rfl]
    have hdg : zdg pa j (n + 1) = j / zpD pa (n + 1) % zpR pa (n + 1) := rfl
    have hjd : j / zpD pa (n + 1) ≤ j := Nat.div_le_self _ _
    revert hdg hjd
    generalize j / zpD pa (n + 1) = jd
    generalize hqq : zpD pa (zpL pa) / zpD pa (n + 2) = qq
    intro hdg hjd
    rw [hqq] at ihe
    rw [i32_div (a := (jd : Int)) (b := ((zpR pa (n + 1) : Nat) : Int)) (by omega) (by omega) (by omega) (by omega)]
    try simp only [zl32, zl64, i32_add, i32_sub, i32_mul, i32_neg, i64_add, i64_sub, i64_mul, i64_neg, cv_gi, cv_gw, cv_ga, cv_gl, cv_pi, cv_pw, cv_pa, cv_pl, zf_S, zf_i, zf_l, mz1, mz2, mz3, mz4, zr_ii, zr_iw, zr_ia, zr_il, zr_wi, zr_ww, zr_wa, zr_wl, zr_ai, zr_aw, zr_aa, zr_al, zr_li, zr_lw, zr_la, zr_ll, zw_ii, zw_ww, zw_aa, zw_ll, reduceIte, Nat.reduceEqDiff, if_true, if_false]
    rw [show (jd : Int).tdiv (zpR pa (n + 1) : Nat) = (jd : Int) / ((zpR pa (n + 1) : Nat) : Int) from rfl, ze_emodn]
    rw [show (jd : Int) % ((zpR pa (n + 1) : Nat) : Int) = ((zdg pa j (n + 1) : Nat) : Int) by rw [hdg]; rfl]
    repeat' (first | (exfalso; omega) | (with_reducible refine zb_in ?_ ?_ ?_ ?_; omega; omega; omega) | (with_reducible refine zb_le ?_ ?_ ?_ ?_ (fun _ => ?_) (fun _ => ?_); omega; omega; omega; omega) | (with_reducible refine zb_lt ?_ ?_ ?_ ?_ (fun _ => ?_) (fun _ => ?_); omega; omega; omega; omega) | (with_reducible refine zb_eq ?_ ?_ ?_ ?_ (fun _ => ?_) (fun _ => ?_); omega; omega; omega; omega) | (with_reducible refine zb_leL ?_ ?_ ?_ ?_ (fun _ => ?_) (fun _ => ?_); omega; omega; omega; omega) | (with_reducible refine zb_ltL ?_ ?_ ?_ ?_ (fun _ => ?_) (fun _ => ?_); omega; omega; omega; omega) | (with_reducible refine zb_eqL ?_ ?_ ?_ ?_ (fun _ => ?_) (fun _ => ?_); omega; omega; omega; omega) | (with_reducible refine zb_nz ?_ ?_ ?_ ?_; omega; omega; omega) | (with_reducible refine zb_nzL ?_ ?_ ?_ ?_; omega; omega; omega) | with_reducible refine zb_ite ?_ | with_reducible refine zb_iteL ?_ | ((with_reducible intro y hy); subst hy; try simp only [zl32, zl64, i32_add, i32_sub, i32_mul, i32_neg, i64_add, i64_sub, i64_mul, i64_neg, cv_gi, cv_gw, cv_ga, cv_gl, cv_pi, cv_pw, cv_pa, cv_pl, zf_S, zf_i, zf_l, mz1, mz2, mz3, mz4, zr_ii, zr_iw, zr_ia, zr_il, zr_wi, zr_ww, zr_wa, zr_wl, zr_ai, zr_aw, zr_aa, zr_al, zr_li, zr_lw, zr_la, zr_ll, zw_ii, zw_ww, zw_aa, zw_ll, reduceIte, Nat.reduceEqDiff, if_true, if_false]) | with_reducible refine zb_o1 ?_ | with_reducible refine zb_o2 ?_ | with_reducible refine zb_o3 ?_ | with_reducible refine zb_o4 ?_ | with_reducible refine zb_tr ?_ | exact trivial | with_reducible refine zb_T ?_ | with_reducible refine zb_sp ?_ ?_)
    rw [show v0 + zhs pa j n + ((zdg pa j (n + 1) : Nat) : Int) * zpS pa (n + 1) * (qq : Int) = v0 + (zhs pa j n + ((zdg pa j (n + 1) : Nat) : Int) * zpS pa (n + 1) * (qq : Int)) from Int.add_assoc _ _ _]
    exact ihe
