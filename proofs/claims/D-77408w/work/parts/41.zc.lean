/-! PURE 12: the model's head -/
set_option maxRecDepth 100000
theorem zB_red {M : Int} (hM : 0 < M) {pa : zP} {a : Nat → Int} (ha : zred M 9 a) : ∀ i b : Nat, zred M 9 (zB M pa a i b) := by
  intro i
  induction i with
  | zero => intro b; exact ha
  | succ i ih =>
    intro b
    unfold zB
    exact zred_zpart hM (ih _)
theorem zcf_red {M : Int} (hM : 0 < M) {pa : zP} {a : Nat → Int} (ha : zred M 9 a) (j : Nat) : 0 ≤ zcf M pa a j ∧ zcf M pa a j < M := zB_red hM ha _ _ 0 (by omega)
theorem zbs_nz {M p : Int} {pa : zP} {a : Nat → Int} : ∀ j : Nat, 0 ≤ (zbs M p pa a j).2 → zcf M pa a (zbs M p pa a j).2.toNat ≠ 0 := by
  intro j
  induction j with
  | zero =>
    unfold zbs
    intro h
    exact absurd h (by decide)
  | succ j ih =>
    unfold zbs
    by_cases c : zcf M pa a j = 0
    · rw [if_pos c]
      exact ih
    · rw [if_neg c]
      by_cases c2 : (zbs M p pa a j).1 < 0 ∨ zhv p pa (zcf M pa a j) j < (zbs M p pa a j).1
      · rw [if_pos c2]
        intro _
        rw [Int.toNat_natCast]
        exact c
      · rw [if_neg c2]
        exact ih
theorem sM_laysHead (t : tS) (pa : zP) (a : Nat → Int) (from_ : Nat) (hP : zPR t) (hH : zHd t pa) (hv : zPv (tgw t) pa) (hfe : from_ + zpD pa (zpL pa) ≤ 24) (ha : zred (tgw t) 9 a) (hc : ∀ c, c < zpD pa (zpL pa) → tgl t 8 (from_ + c) = zcf (tgw t) pa a c) (Q : mS → Prop)
    (h : ∀ w : Int, (0 ≤ (zhd (tgw t) (tgi t 0) pa a).2 → w = zhr (tgw t) (tgi t 0) pa a) → Q (cv (tpi (tsa t 55 (zov 7 (zhm (tgw t) (tgi t 0) pa a) (tga t 55))) 56 w))) : wM_laysHead (cv t) (i32 from_) (i32 (zhd (tgw t) (tgi t 0) pa a).2) Q := by
  have hp := hP.p
  have hw := hP.w
  have hL6 := hv.2.1
  have hL1 := hv.1
  have hbd := zbs_bd (p := tgi t 0) hv a (zpD pa (zpL pa))
  have hnz := zbs_nz (M := tgw t) (p := tgi t 0) (pa := pa) (a := a) (zpD pa (zpL pa))
  have h4 := hv.2.2.2.1
  have h49 := hH.1
  have hba : (zhd (tgw t) (tgi t 0) pa a).2 = (zbs (tgw t) (tgi t 0) pa a (zpD pa (zpL pa))).2 := rfl
  rw [← hba] at hbd hnz
  have S : ∀ n k : Nat, k + n = 7 → wM_laysHead_l2 Q (i32 from_) (i32 (zhd (tgw t) (tgi t 0) pa a).2) (n + 1) (cv (tsa t 55 (zov k (fun _ => 0) (tga t 55)))) (i32 k) := by
    intro n
    induction n with
    | zero =>
      intro k hk
      have hk : k = 7 := by omega
      subst hk
      rw [wM_laysHead_l2]
      try simp only [zl32, zl64, i32_add, i32_sub, i32_mul, i32_neg, i64_add, i64_sub, i64_mul, i64_neg, cv_gi, cv_gw, cv_ga, cv_gl, cv_pi, cv_pw, cv_pa, cv_pl, zf_S, zf_i, zf_l, mz1, mz2, mz3, mz4, zr_ii, zr_iw, zr_ia, zr_il, zr_wi, zr_ww, zr_wa, zr_wl, zr_ai, zr_aw, zr_aa, zr_al, zr_li, zr_lw, zr_la, zr_ll, zw_ii, zw_ww, zw_aa, zw_ll, reduceIte, Nat.reduceEqDiff, if_true, if_false]
      repeat' (first | (exfalso; omega) | (with_reducible refine zb_in ?_ ?_ ?_ ?_; omega; omega; omega) | (with_reducible refine zb_le ?_ ?_ ?_ ?_ (fun _ => ?_) (fun _ => ?_); omega; omega; omega; omega) | (with_reducible refine zb_lt ?_ ?_ ?_ ?_ (fun _ => ?_) (fun _ => ?_); omega; omega; omega; omega) | (with_reducible refine zb_eq ?_ ?_ ?_ ?_ (fun _ => ?_) (fun _ => ?_); omega; omega; omega; omega) | (with_reducible refine zb_leL ?_ ?_ ?_ ?_ (fun _ => ?_) (fun _ => ?_); omega; omega; omega; omega) | (with_reducible refine zb_ltL ?_ ?_ ?_ ?_ (fun _ => ?_) (fun _ => ?_); omega; omega; omega; omega) | (with_reducible refine zb_eqL ?_ ?_ ?_ ?_ (fun _ => ?_) (fun _ => ?_); omega; omega; omega; omega) | (with_reducible refine zb_nz ?_ ?_ ?_ ?_; omega; omega; omega) | (with_reducible refine zb_nzL ?_ ?_ ?_ ?_; omega; omega; omega) | with_reducible refine zb_ite ?_ | with_reducible refine zb_iteL ?_ | ((with_reducible intro y hy); subst hy; try simp only [zl32, zl64, i32_add, i32_sub, i32_mul, i32_neg, i64_add, i64_sub, i64_mul, i64_neg, cv_gi, cv_gw, cv_ga, cv_gl, cv_pi, cv_pw, cv_pa, cv_pl, zf_S, zf_i, zf_l, mz1, mz2, mz3, mz4, zr_ii, zr_iw, zr_ia, zr_il, zr_wi, zr_ww, zr_wa, zr_wl, zr_ai, zr_aw, zr_aa, zr_al, zr_li, zr_lw, zr_la, zr_ll, zw_ii, zw_ww, zw_aa, zw_ll, reduceIte, Nat.reduceEqDiff, if_true, if_false]) | with_reducible refine zb_o1 ?_ | with_reducible refine zb_o2 ?_ | with_reducible refine zb_o3 ?_ | with_reducible refine zb_o4 ?_ | with_reducible refine zb_tr ?_ | exact trivial | with_reducible refine zb_T ?_ | with_reducible refine zb_sp ?_ ?_)
      · -- there is one
        obtain ⟨j, hj⟩ : ∃ j : Nat, (zhd (tgw t) (tgi t 0) pa a).2 = (j : Int) := ⟨(zhd (tgw t) (tgi t 0) pa a).2.toNat, by omega⟩
        have hm : zhm (tgw t) (tgi t 0) pa a = fun k => if k = 0 then (zval (tgi t 0) (zcf (tgw t) pa a j) : Int) else if k < zpL pa then (zdg pa j k : Int) else 0 := by
          funext k
          unfold zhm
          rw [if_neg (by omega), hj, Int.toNat_natCast]
        have hr : zhr (tgw t) (tgi t 0) pa a = zcf (tgw t) pa a j / tgi t 0 ^ zval (tgi t 0) (zcf (tgw t) pa a j) % tgi t 0 := by
          unfold zhr
          rw [hj, Int.toNat_natCast]
        have hcr := zcf_red (pa := pa) (by omega) ha j
        have hcz := hnz (by omega)
        rw [hj] at hbd hcz ⊢
        rw [Int.toNat_natCast] at hcz
        try simp (disch := omega) only [zi9, zi7, zi40, zi360, zikj, zijd, zi9o, zi7o, zip1, zip, zim1, i32_natN, ziL, zi_0, zi_1]
        rw [hc j (by omega)]
        have hs : zval (tgi t 0) (zcf (tgw t) pa a j) ≤ 30 := zvl_bd 30 _
        refine sM_powerIn (tsa t 55 (zov 7 (fun _ => 0) (tga t 55))) _ hP (by omega) (by omega) _ ?_
        rw [zr_ia]
        revert hm hr hs
        generalize zval (tgi t 0) (zcf (tgw t) pa a j) = s
        intro hm hr hs
        try simp only [zl32, zl64, i32_add, i32_sub, i32_mul, i32_neg, i64_add, i64_sub, i64_mul, i64_neg, cv_gi, cv_gw, cv_ga, cv_gl, cv_pi, cv_pw, cv_pa, cv_pl, zf_S, zf_i, zf_l, mz1, mz2, mz3, mz4, zr_ii, zr_iw, zr_ia, zr_il, zr_wi, zr_ww, zr_wa, zr_wl, zr_ai, zr_aw, zr_aa, zr_al, zr_li, zr_lw, zr_la, zr_ll, zw_ii, zw_ww, zw_aa, zw_ll, reduceIte, Nat.reduceEqDiff, if_true, if_false]
        try simp (disch := omega) only [zi9, zi7, zi40, zi360, zikj, zijd, zi9o, zi7o, zip1, zip, zim1, i32_natN, ziL, zi_0, zi_1]
        have S2 : ∀ m k : Nat, k + m = zpL pa → 1 ≤ k → wM_laysHead_l46 Q (i32 from_) (i32 j) (m + 1) (cv (tsa t 55 (zov 7 (fun q => if q = 0 then (s : Int) else if q < k then (zdg pa j q : Int) else 0) (tga t 55)))) (i32 k) := by
          intro m
          induction m with
          | zero =>
            intro k hk hk1
            have hk : k = zpL pa := by omega
            subst hk
            rw [wM_laysHead_l46]
            try simp only [zl32, zl64, i32_add, i32_sub, i32_mul, i32_neg, i64_add, i64_sub, i64_mul, i64_neg, cv_gi, cv_gw, cv_ga, cv_gl, cv_pi, cv_pw, cv_pa, cv_pl, zf_S, zf_i, zf_l, mz1, mz2, mz3, mz4, zr_ii, zr_iw, zr_ia, zr_il, zr_wi, zr_ww, zr_wa, zr_wl, zr_ai, zr_aw, zr_aa, zr_al, zr_li, zr_lw, zr_la, zr_ll, zw_ii, zw_ww, zw_aa, zw_ll, reduceIte, Nat.reduceEqDiff, if_true, if_false]
            rw [h49]
            repeat' (first | (exfalso; omega) | (with_reducible refine zb_in ?_ ?_ ?_ ?_; omega; omega; omega) | (with_reducible refine zb_le ?_ ?_ ?_ ?_ (fun _ => ?_) (fun _ => ?_); omega; omega; omega; omega) | (with_reducible refine zb_lt ?_ ?_ ?_ ?_ (fun _ => ?_) (fun _ => ?_); omega; omega; omega; omega) | (with_reducible refine zb_eq ?_ ?_ ?_ ?_ (fun _ => ?_) (fun _ => ?_); omega; omega; omega; omega) | (with_reducible refine zb_leL ?_ ?_ ?_ ?_ (fun _ => ?_) (fun _ => ?_); omega; omega; omega; omega) | (with_reducible refine zb_ltL ?_ ?_ ?_ ?_ (fun _ => ?_) (fun _ => ?_); omega; omega; omega; omega) | (with_reducible refine zb_eqL ?_ ?_ ?_ ?_ (fun _ => ?_) (fun _ => ?_); omega; omega; omega; omega) | (with_reducible refine zb_nz ?_ ?_ ?_ ?_; omega; omega; omega) | (with_reducible refine zb_nzL ?_ ?_ ?_ ?_; omega; omega; omega) | with_reducible refine zb_ite ?_ | with_reducible refine zb_iteL ?_ | ((with_reducible intro y hy); subst hy; try simp only [zl32, zl64, i32_add, i32_sub, i32_mul, i32_neg, i64_add, i64_sub, i64_mul, i64_neg, cv_gi, cv_gw, cv_ga, cv_gl, cv_pi, cv_pw, cv_pa, cv_pl, zf_S, zf_i, zf_l, mz1, mz2, mz3, mz4, zr_ii, zr_iw, zr_ia, zr_il, zr_wi, zr_ww, zr_wa, zr_wl, zr_ai, zr_aw, zr_aa, zr_al, zr_li, zr_lw, zr_la, zr_ll, zw_ii, zw_ww, zw_aa, zw_ll, reduceIte, Nat.reduceEqDiff, if_true, if_false]) | with_reducible refine zb_o1 ?_ | with_reducible refine zb_o2 ?_ | with_reducible refine zb_o3 ?_ | with_reducible refine zb_o4 ?_ | with_reducible refine zb_tr ?_ | exact trivial | with_reducible refine zb_T ?_ | with_reducible refine zb_sp ?_ ?_)
            try simp (disch := omega) only [zi9, zi7, zi40, zi360, zikj, zijd, zi9o, zi7o, zip1, zip, zim1, i32_natN, ziL, zi_0, zi_1]
            rw [hc j (by omega), ← hm]
            have S3 : ∀ r i : Nat, i + r = s → wM_laysHead_l93 Q (cv (tsa t 55 (zov 7 (zhm (tgw t) (tgi t 0) pa a) (tga t 55)))) (r + 1) (i64 (zcf (tgw t) pa a j / tgi t 0 ^ i)) (i32 i) := by
              intro r
              induction r with
              | zero =>
                intro i hi
                have hi : i = s := by omega
                subst hi
                have b1 : 0 ≤ zcf (tgw t) pa a j / tgi t 0 ^ i := Int.ediv_nonneg (by omega) (Int.le_of_lt (Int.pow_pos (by omega)))
                have b2 : zcf (tgw t) pa a j / tgi t 0 ^ i ≤ zcf (tgw t) pa a j := Int.ediv_le_self _ (by omega)
                have hm0 : zov 7 (zhm (tgw t) (tgi t 0) pa a) (tga t 55) 0 = (i : Int) := by
                  unfold zov
                  rw [if_pos (by omega), hm]
                  exact if_pos rfl
                rw [wM_laysHead_l93]
                try simp only [zl32, zl64, i32_add, i32_sub, i32_mul, i32_neg, i64_add, i64_sub, i64_mul, i64_neg, cv_gi, cv_gw, cv_ga, cv_gl, cv_pi, cv_pw, cv_pa, cv_pl, zf_S, zf_i, zf_l, mz1, mz2, mz3, mz4, zr_ii, zr_iw, zr_ia, zr_il, zr_wi, zr_ww, zr_wa, zr_wl, zr_ai, zr_aw, zr_aa, zr_al, zr_li, zr_lw, zr_la, zr_ll, zw_ii, zw_ww, zw_aa, zw_ll, reduceIte, Nat.reduceEqDiff, if_true, if_false]
                try simp (disch := omega) only [zi9, zi7, zi40, zi360, zikj, zijd, zi9o, zi7o, zip1, zip, zim1, i32_natN, ziL, zi_0, zi_1]
                rw [hm0]
                repeat' (first | (exfalso; omega) | (with_reducible refine zb_in ?_ ?_ ?_ ?_; omega; omega; omega) | (with_reducible refine zb_le ?_ ?_ ?_ ?_ (fun _ => ?_) (fun _ => ?_); omega; omega; omega; omega) | (with_reducible refine zb_lt ?_ ?_ ?_ ?_ (fun _ => ?_) (fun _ => ?_); omega; omega; omega; omega) | (with_reducible refine zb_eq ?_ ?_ ?_ ?_ (fun _ => ?_) (fun _ => ?_); omega; omega; omega; omega) | (with_reducible refine zb_leL ?_ ?_ ?_ ?_ (fun _ => ?_) (fun _ => ?_); omega; omega; omega; omega) | (with_reducible refine zb_ltL ?_ ?_ ?_ ?_ (fun _ => ?_) (fun _ => ?_); omega; omega; omega; omega) | (with_reducible refine zb_eqL ?_ ?_ ?_ ?_ (fun _ => ?_) (fun _ => ?_); omega; omega; omega; omega) | (with_reducible refine zb_nz ?_ ?_ ?_ ?_; omega; omega; omega) | (with_reducible refine zb_nzL ?_ ?_ ?_ ?_; omega; omega; omega) | with_reducible refine zb_ite ?_ | with_reducible refine zb_iteL ?_ | ((with_reducible intro y hy); subst hy; try simp only [zl32, zl64, i32_add, i32_sub, i32_mul, i32_neg, i64_add, i64_sub, i64_mul, i64_neg, cv_gi, cv_gw, cv_ga, cv_gl, cv_pi, cv_pw, cv_pa, cv_pl, zf_S, zf_i, zf_l, mz1, mz2, mz3, mz4, zr_ii, zr_iw, zr_ia, zr_il, zr_wi, zr_ww, zr_wa, zr_wl, zr_ai, zr_aw, zr_aa, zr_al, zr_li, zr_lw, zr_la, zr_ll, zw_ii, zw_ww, zw_aa, zw_ll, reduceIte, Nat.reduceEqDiff, if_true, if_false]) | with_reducible refine zb_o1 ?_ | with_reducible refine zb_o2 ?_ | with_reducible refine zb_o3 ?_ | with_reducible refine zb_o4 ?_ | with_reducible refine zb_tr ?_ | exact trivial | with_reducible refine zb_T ?_ | with_reducible refine zb_sp ?_ ?_)
                refine sM_residue _ _ hP (by omega) (by omega) _ ?_
                rw [← hr]
                try simp only [zl32, zl64, i32_add, i32_sub, i32_mul, i32_neg, i64_add, i64_sub, i64_mul, i64_neg, cv_gi, cv_gw, cv_ga, cv_gl, cv_pi, cv_pw, cv_pa, cv_pl, zf_S, zf_i, zf_l, mz1, mz2, mz3, mz4, zr_ii, zr_iw, zr_ia, zr_il, zr_wi, zr_ww, zr_wa, zr_wl, zr_ai, zr_aw, zr_aa, zr_al, zr_li, zr_lw, zr_la, zr_ll, zw_ii, zw_ww, zw_aa, zw_ll, reduceIte, Nat.reduceEqDiff, if_true, if_false]
                exact h _ (fun _ => rfl)
              | succ r ih =>
                intro i hi
                have e := ih (i + 1) (by omega)
                have b1 : 0 ≤ zcf (tgw t) pa a j / tgi t 0 ^ i := Int.ediv_nonneg (by omega) (Int.le_of_lt (Int.pow_pos (by omega)))
                have b2 : zcf (tgw t) pa a j / tgi t 0 ^ i ≤ zcf (tgw t) pa a j := Int.ediv_le_self _ (by omega)
                have e1 : zcf (tgw t) pa a j / tgi t 0 ^ i / tgi t 0 = zcf (tgw t) pa a j / tgi t 0 ^ (i + 1) := by
                  rw [Int.pow_succ, Int.ediv_ediv_of_nonneg (Int.le_of_lt (Int.pow_pos (by omega)))]
                have hm0 : zov 7 (zhm (tgw t) (tgi t 0) pa a) (tga t 55) 0 = (s : Int) := by
                  unfold zov
                  rw [if_pos (by omega), hm]
                  exact if_pos rfl
                rw [← e1] at e
                rw [wM_laysHead_l93]
                try simp only [zl32, zl64, i32_add, i32_sub, i32_mul, i32_neg, i64_add, i64_sub, i64_mul, i64_neg, cv_gi, cv_gw, cv_ga, cv_gl, cv_pi, cv_pw, cv_pa, cv_pl, zf_S, zf_i, zf_l, mz1, mz2, mz3, mz4, zr_ii, zr_iw, zr_ia, zr_il, zr_wi, zr_ww, zr_wa, zr_wl, zr_ai, zr_aw, zr_aa, zr_al, zr_li, zr_lw, zr_la, zr_ll, zw_ii, zw_ww, zw_aa, zw_ll, reduceIte, Nat.reduceEqDiff, if_true, if_false]
                try simp (disch := omega) only [zi9, zi7, zi40, zi360, zikj, zijd, zi9o, zi7o, zip1, zip, zim1, i32_natN, ziL, zi_0, zi_1]
                rw [hm0]
                repeat' (first | (exfalso; omega) | (with_reducible refine zb_in ?_ ?_ ?_ ?_; omega; omega; omega) | (with_reducible refine zb_le ?_ ?_ ?_ ?_ (fun _ => ?_) (fun _ => ?_); omega; omega; omega; omega) | (with_reducible refine zb_lt ?_ ?_ ?_ ?_ (fun _ => ?_) (fun _ => ?_); omega; omega; omega; omega) | (with_reducible refine zb_eq ?_ ?_ ?_ ?_ (fun _ => ?_) (fun _ => ?_); omega; omega; omega; omega) | (with_reducible refine zb_leL ?_ ?_ ?_ ?_ (fun _ => ?_) (fun _ => ?_); omega; omega; omega; omega) | (with_reducible refine zb_ltL ?_ ?_ ?_ ?_ (fun _ => ?_) (fun _ => ?_); omega; omega; omega; omega) | (with_reducible refine zb_eqL ?_ ?_ ?_ ?_ (fun _ => ?_) (fun _ => ?_); omega; omega; omega; omega) | (with_reducible refine zb_nz ?_ ?_ ?_ ?_; omega; omega; omega) | (with_reducible refine zb_nzL ?_ ?_ ?_ ?_; omega; omega; omega) | with_reducible refine zb_ite ?_ | with_reducible refine zb_iteL ?_ | ((with_reducible intro y hy); subst hy; try simp only [zl32, zl64, i32_add, i32_sub, i32_mul, i32_neg, i64_add, i64_sub, i64_mul, i64_neg, cv_gi, cv_gw, cv_ga, cv_gl, cv_pi, cv_pw, cv_pa, cv_pl, zf_S, zf_i, zf_l, mz1, mz2, mz3, mz4, zr_ii, zr_iw, zr_ia, zr_il, zr_wi, zr_ww, zr_wa, zr_wl, zr_ai, zr_aw, zr_aa, zr_al, zr_li, zr_lw, zr_la, zr_ll, zw_ii, zw_ww, zw_aa, zw_ll, reduceIte, Nat.reduceEqDiff, if_true, if_false]) | with_reducible refine zb_o1 ?_ | with_reducible refine zb_o2 ?_ | with_reducible refine zb_o3 ?_ | with_reducible refine zb_o4 ?_ | with_reducible refine zb_tr ?_ | exact trivial | with_reducible refine zb_T ?_ | with_reducible refine zb_sp ?_ ?_)
                try simp only [zl32, zl64, i32_add, i32_sub, i32_mul, i32_neg, i64_add, i64_sub, i64_mul, i64_neg, cv_gi, cv_gw, cv_ga, cv_gl, cv_pi, cv_pw, cv_pa, cv_pl, zf_S, zf_i, zf_l, mz1, mz2, mz3, mz4, zr_ii, zr_iw, zr_ia, zr_il, zr_wi, zr_ww, zr_wa, zr_wl, zr_ai, zr_aw, zr_aa, zr_al, zr_li, zr_lw, zr_la, zr_ll, zw_ii, zw_ww, zw_aa, zw_ll, reduceIte, Nat.reduceEqDiff, if_true, if_false]
                rw [i32_64 (by omega) (by omega)]
                repeat' (first | (exfalso; omega) | (with_reducible refine zb_in ?_ ?_ ?_ ?_; omega; omega; omega) | (with_reducible refine zb_le ?_ ?_ ?_ ?_ (fun _ => ?_) (fun _ => ?_); omega; omega; omega; omega) | (with_reducible refine zb_lt ?_ ?_ ?_ ?_ (fun _ => ?_) (fun _ => ?_); omega; omega; omega; omega) | (with_reducible refine zb_eq ?_ ?_ ?_ ?_ (fun _ => ?_) (fun _ => ?_); omega; omega; omega; omega) | (with_reducible refine zb_leL ?_ ?_ ?_ ?_ (fun _ => ?_) (fun _ => ?_); omega; omega; omega; omega) | (with_reducible refine zb_ltL ?_ ?_ ?_ ?_ (fun _ => ?_) (fun _ => ?_); omega; omega; omega; omega) | (with_reducible refine zb_eqL ?_ ?_ ?_ ?_ (fun _ => ?_) (fun _ => ?_); omega; omega; omega; omega) | (with_reducible refine zb_nz ?_ ?_ ?_ ?_; omega; omega; omega) | (with_reducible refine zb_nzL ?_ ?_ ?_ ?_; omega; omega; omega) | with_reducible refine zb_ite ?_ | with_reducible refine zb_iteL ?_ | ((with_reducible intro y hy); subst hy; try simp only [zl32, zl64, i32_add, i32_sub, i32_mul, i32_neg, i64_add, i64_sub, i64_mul, i64_neg, cv_gi, cv_gw, cv_ga, cv_gl, cv_pi, cv_pw, cv_pa, cv_pl, zf_S, zf_i, zf_l, mz1, mz2, mz3, mz4, zr_ii, zr_iw, zr_ia, zr_il, zr_wi, zr_ww, zr_wa, zr_wl, zr_ai, zr_aw, zr_aa, zr_al, zr_li, zr_lw, zr_la, zr_ll, zw_ii, zw_ww, zw_aa, zw_ll, reduceIte, Nat.reduceEqDiff, if_true, if_false]) | with_reducible refine zb_o1 ?_ | with_reducible refine zb_o2 ?_ | with_reducible refine zb_o3 ?_ | with_reducible refine zb_o4 ?_ | with_reducible refine zb_tr ?_ | exact trivial | with_reducible refine zb_T ?_ | with_reducible refine zb_sp ?_ ?_)
                rw [i64_div (by omega) (by omega) (by omega) (by omega), ze_tdivn b1]
                exact e
            have e := S3 s 0 (by omega)
            rw [Int.pow_zero, Int.ediv_one] at e
            exact ⟨s + 1, e⟩
          | succ m ih =>
            intro k hk hk1
            have e := ih (k + 1) (by omega) (by omega)
            have hD := hv.D hk1 (by omega)
            have hR := hv.R hk1 (by omega)
            have a1 := (hH.2.1 k hk1 (by omega)).1
            have a3 := hH.2.2 k hk1 (by omega)
            have e2 : zup (zov 7 (fun q => if q = 0 then (s : Int) else if q < k then (zdg pa j q : Int) else 0) (tga t 55)) k (zdg pa j k) = zov 7 (fun q => if q = 0 then (s : Int) else if q < k + 1 then (zdg pa j q : Int) else 0) (tga t 55) := by
              funext q
              unfold zup zov
              dsimp only
              by_cases c : q = k
              · subst c
                rw [if_pos rfl, if_pos (by omega), if_neg (by omega), if_pos (by omega)]
              · rw [if_neg c]
                by_cases c2 : q < 7
                · rw [if_pos c2, if_pos c2]
                  by_cases c3 : q = 0
                  · rw [if_pos c3, if_pos c3]
                  · rw [if_neg c3, if_neg c3]
                    by_cases c4 : q < k
                    · rw [if_pos c4, if_pos (by omega)]
                    · rw [if_neg c4, if_neg (by omega)]
                · rw [if_neg c2, if_neg c2]
            rw [← e2] at e
            have hdg : zdg pa j k = j / zpD pa k % zpR pa k := rfl
            have hjd : j / zpD pa k ≤ j := Nat.div_le_self _ _
            have hjD : (j : Int).tdiv (zpD pa k : Nat) = ((j / zpD pa k : Nat) : Int) := rfl
            rw [wM_laysHead_l46]
            try simp only [zl32, zl64, i32_add, i32_sub, i32_mul, i32_neg, i64_add, i64_sub, i64_mul, i64_neg, cv_gi, cv_gw, cv_ga, cv_gl, cv_pi, cv_pw, cv_pa, cv_pl, zf_S, zf_i, zf_l, mz1, mz2, mz3, mz4, zr_ii, zr_iw, zr_ia, zr_il, zr_wi, zr_ww, zr_wa, zr_wl, zr_ai, zr_aw, zr_aa, zr_al, zr_li, zr_lw, zr_la, zr_ll, zw_ii, zw_ww, zw_aa, zw_ll, reduceIte, Nat.reduceEqDiff, if_true, if_false]
            rw [h49]
            try simp (disch := omega) only [zi9, zi7, zi40, zi360, zikj, zijd, zi9o, zi7o, zip1, zip, zim1, i32_natN, ziL, zi_0, zi_1]
            rw [a1, a3.1]
            repeat' (first | (exfalso; omega) | (with_reducible refine zb_in ?_ ?_ ?_ ?_; omega; omega; omega) | (with_reducible refine zb_le ?_ ?_ ?_ ?_ (fun _ => ?_) (fun _ => ?_); omega; omega; omega; omega) | (with_reducible refine zb_lt ?_ ?_ ?_ ?_ (fun _ => ?_) (fun _ => ?_); omega; omega; omega; omega) | (with_reducible refine zb_eq ?_ ?_ ?_ ?_ (fun _ => ?_) (fun _ => ?_); omega; omega; omega; omega) | (with_reducible refine zb_leL ?_ ?_ ?_ ?_ (fun _ => ?_) (fun _ => ?_); omega; omega; omega; omega) | (with_reducible refine zb_ltL ?_ ?_ ?_ ?_ (fun _ => ?_) (fun _ => ?_); omega; omega; omega; omega) | (with_reducible refine zb_eqL ?_ ?_ ?_ ?_ (fun _ => ?_) (fun _ => ?_); omega; omega; omega; omega) | (with_reducible refine zb_nz ?_ ?_ ?_ ?_; omega; omega; omega) | (with_reducible refine zb_nzL ?_ ?_ ?_ ?_; omega; omega; omega) | with_reducible refine zb_ite ?_ | with_reducible refine zb_iteL ?_ | ((with_reducible intro y hy); subst hy; try simp only [zl32, zl64, i32_add, i32_sub, i32_mul, i32_neg, i64_add, i64_sub, i64_mul, i64_neg, cv_gi, cv_gw, cv_ga, cv_gl, cv_pi, cv_pw, cv_pa, cv_pl, zf_S, zf_i, zf_l, mz1, mz2, mz3, mz4, zr_ii, zr_iw, zr_ia, zr_il, zr_wi, zr_ww, zr_wa, zr_wl, zr_ai, zr_aw, zr_aa, zr_al, zr_li, zr_lw, zr_la, zr_ll, zw_ii, zw_ww, zw_aa, zw_ll, reduceIte, Nat.reduceEqDiff, if_true, if_false]) | with_reducible refine zb_o1 ?_ | with_reducible refine zb_o2 ?_ | with_reducible refine zb_o3 ?_ | with_reducible refine zb_o4 ?_ | with_reducible refine zb_tr ?_ | exact trivial | with_reducible refine zb_T ?_ | with_reducible refine zb_sp ?_ ?_)
            rw [i32_div (a := (j : Int)) (b := ((zpD pa k : Nat) : Int)) (by omega) (by omega) (by omega) (by omega), hjD]
            revert hdg hjd
            generalize j / zpD pa k = jd
            intro hdg hjd
            rw [i32_div (a := (jd : Int)) (b := ((zpR pa k : Nat) : Int)) (by omega) (by omega) (by omega) (by omega)]
            try simp only [zl32, zl64, i32_add, i32_sub, i32_mul, i32_neg, i64_add, i64_sub, i64_mul, i64_neg, cv_gi, cv_gw, cv_ga, cv_gl, cv_pi, cv_pw, cv_pa, cv_pl, zf_S, zf_i, zf_l, mz1, mz2, mz3, mz4, zr_ii, zr_iw, zr_ia, zr_il, zr_wi, zr_ww, zr_wa, zr_wl, zr_ai, zr_aw, zr_aa, zr_al, zr_li, zr_lw, zr_la, zr_ll, zw_ii, zw_ww, zw_aa, zw_ll, reduceIte, Nat.reduceEqDiff, if_true, if_false]
            rw [show (jd : Int).tdiv (zpR pa k : Nat) = (jd : Int) / ((zpR pa k : Nat) : Int) from rfl, ze_emodn]
            rw [show (jd : Int) % ((zpR pa k : Nat) : Int) = ((zdg pa j k : Nat) : Int) by rw [hdg]; rfl]
            exact e
        have e := S2 (zpL pa - 1) 1 (by omega) (by omega)
        have e2 : zup (zov 7 (fun _ => 0) (tga t 55)) 0 s = zov 7 (fun q => if q = 0 then (s : Int) else if q < 1 then (zdg pa j q : Int) else 0) (tga t 55) := by
          funext q
          unfold zup zov
          dsimp only
          by_cases c : q = 0
          · rw [if_pos c, if_pos (by omega), if_pos c]
          · rw [if_neg c]
            by_cases c2 : q < 7
            · rw [if_pos c2, if_pos c2, if_neg c, if_neg (by omega)]
            · rw [if_neg c2, if_neg c2]
        rw [e2]
        exact ⟨_, e⟩
      · have e := h (tgi t 56) (fun q => by omega)
        have hm : zhm (tgw t) (tgi t 0) pa a = fun _ => 0 := by
          funext k
          unfold zhm
          rw [if_pos (by omega)]
        rw [hm, show tpi (tsa t 55 (zov 7 (fun _ => 0) (tga t 55))) 56 (tgi t 56) = tsa t 55 (zov 7 (fun _ => 0) (tga t 55)) from zw_i0 (tsa t 55 (zov 7 (fun _ => 0) (tga t 55))) 56] at e
        exact e
    | succ n ih =>
      intro k hk
      have e := ih (k + 1) (by omega)
      rw [← zov_s] at e
      rw [wM_laysHead_l2]
      try simp only [zl32, zl64, i32_add, i32_sub, i32_mul, i32_neg, i64_add, i64_sub, i64_mul, i64_neg, cv_gi, cv_gw, cv_ga, cv_gl, cv_pi, cv_pw, cv_pa, cv_pl, zf_S, zf_i, zf_l, mz1, mz2, mz3, mz4, zr_ii, zr_iw, zr_ia, zr_il, zr_wi, zr_ww, zr_wa, zr_wl, zr_ai, zr_aw, zr_aa, zr_al, zr_li, zr_lw, zr_la, zr_ll, zw_ii, zw_ww, zw_aa, zw_ll, reduceIte, Nat.reduceEqDiff, if_true, if_false]
      try simp (disch := omega) only [zi9, zi7, zi40, zi360, zikj, zijd, zi9o, zi7o, zip1, zip, zim1, i32_natN, ziL, zi_0, zi_1]
      repeat' (first | (exfalso; omega) | (with_reducible refine zb_in ?_ ?_ ?_ ?_; omega; omega; omega) | (with_reducible refine zb_le ?_ ?_ ?_ ?_ (fun _ => ?_) (fun _ => ?_); omega; omega; omega; omega) | (with_reducible refine zb_lt ?_ ?_ ?_ ?_ (fun _ => ?_) (fun _ => ?_); omega; omega; omega; omega) | (with_reducible refine zb_eq ?_ ?_ ?_ ?_ (fun _ => ?_) (fun _ => ?_); omega; omega; omega; omega) | (with_reducible refine zb_leL ?_ ?_ ?_ ?_ (fun _ => ?_) (fun _ => ?_); omega; omega; omega; omega) | (with_reducible refine zb_ltL ?_ ?_ ?_ ?_ (fun _ => ?_) (fun _ => ?_); omega; omega; omega; omega) | (with_reducible refine zb_eqL ?_ ?_ ?_ ?_ (fun _ => ?_) (fun _ => ?_); omega; omega; omega; omega) | (with_reducible refine zb_nz ?_ ?_ ?_ ?_; omega; omega; omega) | (with_reducible refine zb_nzL ?_ ?_ ?_ ?_; omega; omega; omega) | with_reducible refine zb_ite ?_ | with_reducible refine zb_iteL ?_ | ((with_reducible intro y hy); subst hy; try simp only [zl32, zl64, i32_add, i32_sub, i32_mul, i32_neg, i64_add, i64_sub, i64_mul, i64_neg, cv_gi, cv_gw, cv_ga, cv_gl, cv_pi, cv_pw, cv_pa, cv_pl, zf_S, zf_i, zf_l, mz1, mz2, mz3, mz4, zr_ii, zr_iw, zr_ia, zr_il, zr_wi, zr_ww, zr_wa, zr_wl, zr_ai, zr_aw, zr_aa, zr_al, zr_li, zr_lw, zr_la, zr_ll, zw_ii, zw_ww, zw_aa, zw_ll, reduceIte, Nat.reduceEqDiff, if_true, if_false]) | with_reducible refine zb_o1 ?_ | with_reducible refine zb_o2 ?_ | with_reducible refine zb_o3 ?_ | with_reducible refine zb_o4 ?_ | with_reducible refine zb_tr ?_ | exact trivial | with_reducible refine zb_T ?_ | with_reducible refine zb_sp ?_ ?_)
      exact e
  unfold wM_laysHead
  try simp only [zl32, zl64, i32_add, i32_sub, i32_mul, i32_neg, i64_add, i64_sub, i64_mul, i64_neg, cv_gi, cv_gw, cv_ga, cv_gl, cv_pi, cv_pw, cv_pa, cv_pl, zf_S, zf_i, zf_l, mz1, mz2, mz3, mz4]
  have e := S 7 0 rfl
  rw [zov_0, zw_a0] at e
  exact ⟨8, e⟩
theorem sM_head_l92 (t : tS) (pa : zP) (a : Nat → Int) (from_ : Nat) (hP : zPR t) (hH : zHd t pa) (hv : zPv (tgw t) pa) (hfe : from_ + zpD pa (zpL pa) ≤ 24) (ha : zred (tgw t) 9 a) (hc : ∀ c, c < zpD pa (zpL pa) → tgl t 8 (from_ + c) = zcf (tgw t) pa a c) (Q : Int32 → mS → Prop)
    (h : wM_laysHead (cv t) (i32 from_) (i32 (zhd (tgw t) (tgi t 0) pa a).2) (fun σ => Q (i32 (zhd (tgw t) (tgi t 0) pa a).1) σ)) :
    ∀ m j : Nat, j + m = zpD pa (zpL pa) → wM_head_l92 Q (cv t) (i32 from_) (i32 (zpD pa (zpL pa) : Nat)) (m + 1) (i32 (zbs (tgw t) (tgi t 0) pa a j).1) (i32 (zbs (tgw t) (tgi t 0) pa a j).2) (i32 j) := by
  have hw := hP.w
  have h4 := hv.2.2.2.1
  have hL1 := hv.1
  intro m
  induction m with
  | zero =>
    intro j hj
    have hj : j = zpD pa (zpL pa) := by omega
    rw [wM_head_l92]
    try simp only [zl32, zl64, i32_add, i32_sub, i32_mul, i32_neg, i64_add, i64_sub, i64_mul, i64_neg, cv_gi, cv_gw, cv_ga, cv_gl, cv_pi, cv_pw, cv_pa, cv_pl, zf_S, zf_i, zf_l, mz1, mz2, mz3, mz4]
    repeat' (first | (exfalso; omega) | (with_reducible refine zb_in ?_ ?_ ?_ ?_; omega; omega; omega) | (with_reducible refine zb_le ?_ ?_ ?_ ?_ (fun _ => ?_) (fun _ => ?_); omega; omega; omega; omega) | (with_reducible refine zb_lt ?_ ?_ ?_ ?_ (fun _ => ?_) (fun _ => ?_); omega; omega; omega; omega) | (with_reducible refine zb_eq ?_ ?_ ?_ ?_ (fun _ => ?_) (fun _ => ?_); omega; omega; omega; omega) | (with_reducible refine zb_leL ?_ ?_ ?_ ?_ (fun _ => ?_) (fun _ => ?_); omega; omega; omega; omega) | (with_reducible refine zb_ltL ?_ ?_ ?_ ?_ (fun _ => ?_) (fun _ => ?_); omega; omega; omega; omega) | (with_reducible refine zb_eqL ?_ ?_ ?_ ?_ (fun _ => ?_) (fun _ => ?_); omega; omega; omega; omega) | (with_reducible refine zb_nz ?_ ?_ ?_ ?_; omega; omega; omega) | (with_reducible refine zb_nzL ?_ ?_ ?_ ?_; omega; omega; omega) | with_reducible refine zb_ite ?_ | with_reducible refine zb_iteL ?_ | ((with_reducible intro y hy); subst hy; try simp only [zl32, zl64, i32_add, i32_sub, i32_mul, i32_neg, i64_add, i64_sub, i64_mul, i64_neg, cv_gi, cv_gw, cv_ga, cv_gl, cv_pi, cv_pw, cv_pa, cv_pl, zf_S, zf_i, zf_l, mz1, mz2, mz3, mz4, zr_ii, zr_iw, zr_ia, zr_il, zr_wi, zr_ww, zr_wa, zr_wl, zr_ai, zr_aw, zr_aa, zr_al, zr_li, zr_lw, zr_la, zr_ll, zw_ii, zw_ww, zw_aa, zw_ll, reduceIte, Nat.reduceEqDiff, if_true, if_false]) | with_reducible refine zb_o1 ?_ | with_reducible refine zb_o2 ?_ | with_reducible refine zb_o3 ?_ | with_reducible refine zb_o4 ?_ | with_reducible refine zb_tr ?_ | exact trivial | with_reducible refine zb_T ?_ | with_reducible refine zb_sp ?_ ?_)
    rw [hj]
    exact h
  | succ m ih =>
    intro j hj
    have e := ih (j + 1) (by omega)
    have hb := zbs_bd (p := tgi t 0) hv a j
    have hcr := zcf_red (pa := pa) (by omega) ha j
    have hcj := hc j (by omega)
    unfold zbs at e
    rw [wM_head_l92]
    try simp only [zl32, zl64, i32_add, i32_sub, i32_mul, i32_neg, i64_add, i64_sub, i64_mul, i64_neg, cv_gi, cv_gw, cv_ga, cv_gl, cv_pi, cv_pw, cv_pa, cv_pl, zf_S, zf_i, zf_l, mz1, mz2, mz3, mz4, zr_ii, zr_iw, zr_ia, zr_il, zr_wi, zr_ww, zr_wa, zr_wl, zr_ai, zr_aw, zr_aa, zr_al, zr_li, zr_lw, zr_la, zr_ll, zw_ii, zw_ww, zw_aa, zw_ll, reduceIte, Nat.reduceEqDiff, if_true, if_false]
    try simp (disch := omega) only [zi9, zi7, zi40, zi360, zikj, zijd, zi9o, zi7o, zip1, zip, zim1, i32_natN, ziL, zi_0, zi_1]
    rw [hcj]
    repeat' (first | (exfalso; omega) | (with_reducible refine zb_in ?_ ?_ ?_ ?_; omega; omega; omega) | (with_reducible refine zb_le ?_ ?_ ?_ ?_ (fun _ => ?_) (fun _ => ?_); omega; omega; omega; omega) | (with_reducible refine zb_lt ?_ ?_ ?_ ?_ (fun _ => ?_) (fun _ => ?_); omega; omega; omega; omega) | (with_reducible refine zb_eq ?_ ?_ ?_ ?_ (fun _ => ?_) (fun _ => ?_); omega; omega; omega; omega) | (with_reducible refine zb_leL ?_ ?_ ?_ ?_ (fun _ => ?_) (fun _ => ?_); omega; omega; omega; omega) | (with_reducible refine zb_ltL ?_ ?_ ?_ ?_ (fun _ => ?_) (fun _ => ?_); omega; omega; omega; omega) | (with_reducible refine zb_eqL ?_ ?_ ?_ ?_ (fun _ => ?_) (fun _ => ?_); omega; omega; omega; omega) | (with_reducible refine zb_nz ?_ ?_ ?_ ?_; omega; omega; omega) | (with_reducible refine zb_nzL ?_ ?_ ?_ ?_; omega; omega; omega) | with_reducible refine zb_ite ?_ | with_reducible refine zb_iteL ?_ | ((with_reducible intro y hy); subst hy; try simp only [zl32, zl64, i32_add, i32_sub, i32_mul, i32_neg, i64_add, i64_sub, i64_mul, i64_neg, cv_gi, cv_gw, cv_ga, cv_gl, cv_pi, cv_pw, cv_pa, cv_pl, zf_S, zf_i, zf_l, mz1, mz2, mz3, mz4, zr_ii, zr_iw, zr_ia, zr_il, zr_wi, zr_ww, zr_wa, zr_wl, zr_ai, zr_aw, zr_aa, zr_al, zr_li, zr_lw, zr_la, zr_ll, zw_ii, zw_ww, zw_aa, zw_ll, reduceIte, Nat.reduceEqDiff, if_true, if_false]) | with_reducible refine zb_o1 ?_ | with_reducible refine zb_o2 ?_ | with_reducible refine zb_o3 ?_ | with_reducible refine zb_o4 ?_ | with_reducible refine zb_tr ?_ | exact trivial | with_reducible refine zb_T ?_ | with_reducible refine zb_sp ?_ ?_)
    · rw [if_pos (by assumption)] at e
      exact e
    · rw [if_neg (by assumption)] at e
      refine sM_powerIn t _ hP (by omega) (by omega) _ ?_
      have hs : zval (tgi t 0) (zcf (tgw t) pa a j) ≤ 30 := zvl_bd 30 _
      have hv2 : (zpD pa (zpL pa) : Int) * (zval (tgi t 0) (zcf (tgw t) pa a j) : Int) ≤ 4 * 30 := Int.mul_le_mul (by omega) (by omega) (by omega) (by omega)
      have hv1 : 0 ≤ (zpD pa (zpL pa) : Int) * (zval (tgi t 0) (zcf (tgw t) pa a j) : Int) := Int.mul_nonneg (by omega) (by omega)
      try simp only [zl32, zl64, i32_add, i32_sub, i32_mul, i32_neg, i64_add, i64_sub, i64_mul, i64_neg, cv_gi, cv_gw, cv_ga, cv_gl, cv_pi, cv_pw, cv_pa, cv_pl, zf_S, zf_i, zf_l, mz1, mz2, mz3, mz4]
      refine ⟨zpL pa - 1 + 1, ?_⟩
      have e2 := sM_head_l132 t pa hH hv (fun z3 z4 z5 => wM_head_l92 Q (cv t) (i32 from_) (i32 (zpD pa (zpL pa) : Nat)) (m + 1) z3 z4 z5) Q (i32 from_) (zbs (tgw t) (tgi t 0) pa a j).1 (zbs (tgw t) (tgi t 0) pa a j).2 j _ hv1 hv2 (by omega) hb.1 hb.2.1 ?_ (zpL pa - 1) 0 (by omega)
      · rw [show zhs pa j 0 = 0 from rfl, Int.add_zero, show (((0 : Nat) : Int) + 1) = 1 from rfl] at e2
        exact e2
      · by_cases c : (zbs (tgw t) (tgi t 0) pa a j).1 < 0 ∨ zhv (tgi t 0) pa (zcf (tgw t) pa a j) j < (zbs (tgw t) (tgi t 0) pa a j).1
        · rw [if_pos c] at e
          unfold zhv at c e
          rw [if_pos c, if_pos c]
          exact e
        · rw [if_neg c] at e
          unfold zhv at c
          rw [if_neg c, if_neg c]
          exact e
theorem sM_head (t : tS) (pa : zP) (a : Nat → Int) (from_ : Nat) (hP : zPR t) (hH : zHd t pa) (hK : zKy t pa) (hv : zPv (tgw t) pa) (hfe : from_ + zpD pa (zpL pa) ≤ 24) (hr : zred (tgw t) 24 (tgl t 8)) (ha : zred (tgw t) 9 a) (ha0 : ∀ x, zpD pa (zpL pa) ≤ x → a x = 0) (hax : ∀ x, x < zpD pa (zpL pa) → tgl t 8 (from_ + x) = a x) (Q : Int32 → mS → Prop)
    (h : ∀ u, zfr [56] [55] [8] t u → (∀ q, q < from_ ∨ from_ + zpD pa (zpL pa) ≤ q → tgl u 8 q = tgl t 8 q) → zred (tgw t) 24 (tgl u 8) → tga u 55 = zov 7 (zhm (tgw t) (tgi t 0) pa a) (tga t 55) → (0 ≤ (zhd (tgw t) (tgi t 0) pa a).2 → tgi u 56 = zhr (tgw t) (tgi t 0) pa a) → Q (i32 (zhd (tgw t) (tgi t 0) pa a).1) (cv u)) : wM_head (cv t) (i32 from_) Q := by
  have hL6 := hv.2.1
  have hL1 := hv.1
  have h49 := hH.1
  have hDL := hv.D (k := zpL pa) hv.1 (Nat.le_refl _)
  have h51 := (hH.2.1 (zpL pa) hL1 (Nat.le_refl _)).1
  unfold wM_head
  try simp only [zl32, zl64, i32_add, i32_sub, i32_mul, i32_neg, i64_add, i64_sub, i64_mul, i64_neg, cv_gi, cv_gw, cv_ga, cv_gl, cv_pi, cv_pw, cv_pa, cv_pl, zf_S, zf_i, zf_l, mz1, mz2, mz3, mz4, zr_ii, zr_iw, zr_ia, zr_il, zr_wi, zr_ww, zr_wa, zr_wl, zr_ai, zr_aw, zr_aa, zr_al, zr_li, zr_lw, zr_la, zr_ll, zw_ii, zw_ww, zw_aa, zw_ll, reduceIte, Nat.reduceEqDiff, if_true, if_false]
  rw [h49]
  try simp (disch := omega) only [zi9, zi7, zi40, zi360, zikj, zijd, zi9o, zi7o, zip1, zip, zim1, i32_natN, ziL, zi_0, zi_1]
  rw [h51]
  repeat' (first | (exfalso; omega) | (with_reducible refine zb_in ?_ ?_ ?_ ?_; omega; omega; omega) | (with_reducible refine zb_le ?_ ?_ ?_ ?_ (fun _ => ?_) (fun _ => ?_); omega; omega; omega; omega) | (with_reducible refine zb_lt ?_ ?_ ?_ ?_ (fun _ => ?_) (fun _ => ?_); omega; omega; omega; omega) | (with_reducible refine zb_eq ?_ ?_ ?_ ?_ (fun _ => ?_) (fun _ => ?_); omega; omega; omega; omega) | (with_reducible refine zb_leL ?_ ?_ ?_ ?_ (fun _ => ?_) (fun _ => ?_); omega; omega; omega; omega) | (with_reducible refine zb_ltL ?_ ?_ ?_ ?_ (fun _ => ?_) (fun _ => ?_); omega; omega; omega; omega) | (with_reducible refine zb_eqL ?_ ?_ ?_ ?_ (fun _ => ?_) (fun _ => ?_); omega; omega; omega; omega) | (with_reducible refine zb_nz ?_ ?_ ?_ ?_; omega; omega; omega) | (with_reducible refine zb_nzL ?_ ?_ ?_ ?_; omega; omega; omega) | with_reducible refine zb_ite ?_ | with_reducible refine zb_iteL ?_ | ((with_reducible intro y hy); subst hy; try simp only [zl32, zl64, i32_add, i32_sub, i32_mul, i32_neg, i64_add, i64_sub, i64_mul, i64_neg, cv_gi, cv_gw, cv_ga, cv_gl, cv_pi, cv_pw, cv_pa, cv_pl, zf_S, zf_i, zf_l, mz1, mz2, mz3, mz4, zr_ii, zr_iw, zr_ia, zr_il, zr_wi, zr_ww, zr_wa, zr_wl, zr_ai, zr_aw, zr_aa, zr_al, zr_li, zr_lw, zr_la, zr_ll, zw_ii, zw_ww, zw_aa, zw_ll, reduceIte, Nat.reduceEqDiff, if_true, if_false]) | with_reducible refine zb_o1 ?_ | with_reducible refine zb_o2 ?_ | with_reducible refine zb_o3 ?_ | with_reducible refine zb_o4 ?_ | with_reducible refine zb_tr ?_ | exact trivial | with_reducible refine zb_T ?_ | with_reducible refine zb_sp ?_ ?_)
  refine ⟨zpL pa - 1 + 1, ?_⟩
  have e := sM_head_l17 t pa a from_ hP hH hK hv hfe ha0 Q (tgl t 8) (fun ρ r1 r2 r3 => by
    refine ⟨zpD pa (zpL pa) + 1, ?_⟩
    refine sM_head_l92 (tsl t 8 ρ) pa a from_ hP hH hv hfe ha (fun c hc => by rw [zr_ll, if_pos rfl]; exact r3 c hc) Q ?_ (zpD pa (zpL pa)) 0 (by omega)
    refine sM_laysHead (tsl t 8 ρ) pa a from_ hP hH hv hfe ha (fun c hc => by rw [zr_ll, if_pos rfl]; exact r3 c hc) _ (fun w hw => ?_)
    refine h _ (zfr_pi (zfr_sa (zfr_sl (zfr.refl t) (by decide)) (by decide)) (by decide)) (fun q hq => ?_) ?_ ?_ (fun q => ?_)
    · rw [zr_li, zr_la, zr_ll, if_pos rfl]
      exact r2 q hq
    · rw [zr_li, zr_la, zr_ll, if_pos rfl]
      exact r1
    · rw [zr_ai, zr_aa, if_pos rfl]
      rfl
    · rw [zr_ii, if_pos rfl]
      exact hw q) (zpL pa - 1) (tgl t 8) (by omega) hr (fun q _ => rfl) (fun c x hx hcx => by
      rw [show zpL pa - 1 + 1 = zpL pa by omega] at hx hcx ⊢
      have hc0 : c = 0 := by
        cases c with
        | zero => rfl
        | succ c =>
          rw [Nat.succ_mul] at hcx
          omega
      rw [hc0, Nat.zero_mul, Nat.add_zero, Nat.sub_self]
      exact hax x hx)
  rw [zw_l0] at e
  rw [show ((zpL pa : Int) - 1) = ((zpL pa - 1 : Nat) : Int) by omega]
  exact e
