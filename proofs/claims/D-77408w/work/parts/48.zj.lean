/-! PURE 19: a knot is laid -/
set_option maxRecDepth 100000
def zhull (pts : Nat → Int) (m : Nat) : List (Nat × Nat) := if pts (zfst pts m) < 0 then [] else zhl pts (zlow pts (zfst pts m) m) 9 (zfst pts m)
def zindex (pts : Nat → Int) (m : Nat) : Int := if pts (zfst pts m) < 0 then 0 else zixs pts (pts (zlow pts (zfst pts m) m)) (zhull pts m)
theorem sM_laysSides (t : tS) (pa : zP) (m : Nat) (pts : Nat → Int) (hpts : pts = zpts (tgw t) (tgi t 0) pa (tgl t 19) m) (hm8 : m ≤ 8) (hP : zPR t) (hH : zHd t pa) (hK : zKy t pa) (hM : zMd t pa) (hv : zPv (tgw t) pa) (hw : zPw (tgi t 0) pa) (hits : zred (tgw t) 9 (tgl t 19)) (hpt : zPt t (zpA pa (zpL pa)) pts) (h25 : tga t 25 (zpA pa (zpL pa)) = (m : Int)) (h29 : tga t 29 (zpA pa (zpL pa)) = (zfst pts m : Int)) (S : Nat) (hS : tgi t 22 = (S : Int)) (hlen : S + (zhull pts m).length ≤ 64) (hzm0 : pts (zfst pts m) < 0 → zfst pts m = m) (Q : mS → Prop)
    (h : ∀ v, zfr [22, 56] [27, 28, 30, 36, 37, 38, 39, 40, 41, 42, 43, 55] [8] t v → tgi v 22 = ((S + (zhull pts m).length : Nat) : Int) → (∀ (j : Nat) (x : Nat × Nat), (zhull pts m)[j]? = some x → zSA v (S + j) (zside (tgw t) (tgi t 0) pa (tgl t 19) pts x)) → zSk t v S → tga v 27 = zup (tga t 27) (zpA pa (zpL pa)) S → tga v 28 = zup (tga t 28) (zpA pa (zpL pa)) (zhull pts m).length → tga v 30 = zup (tga t 30) (zpA pa (zpL pa)) (zindex pts m) → Q (cv v)) : wM_laysSides (cv t) (i32 (zpA pa (zpL pa))) Q := by
  have hkn := hpt.1
  have hbb : zpb pts := by rw [hpts]; exact zpts_bd hv hm8
  have hzm : zfst pts m ≤ m := zzs_le pts m (m + 1)
  obtain ⟨kn, hkn'⟩ : ∃ kn, kn = zpA pa (zpL pa) := ⟨_, rfl⟩
  obtain ⟨z, hz⟩ : ∃ z, z = zfst pts m := ⟨_, rfl⟩
  obtain ⟨u, hu⟩ : ∃ u, u = tsa (tsa t 27 (zup (tga t 27) kn S)) 30 (zup (tga t 30) kn 0) := ⟨_, rfl⟩
  have hfu : zfr [22, 56] [27, 28, 30, 36, 37, 38, 39, 40, 41, 42, 43, 55] [8] t u := by
    rw [hu]
    exact zfr_sa (zfr_sa (zfr.refl t) (by decide)) (by decide)
  have hptu : zPt u kn pts := by rw [hu, hkn']; exact hpt
  have e25 : tga u 25 kn = (m : Int) := by rw [hfu.a 25 (by decide), hkn']; exact h25
  rw [← hkn'] at hkn
  rw [← hz] at hzm hzm0 h29
  unfold wM_laysSides
  rw [← hkn']
  try simp only [zl32, zl64, i32_add, i32_sub, i32_mul, i32_neg, i64_add, i64_sub, i64_mul, i64_neg, cv_gi, cv_gw, cv_ga, cv_gl, cv_pi, cv_pw, cv_pa, cv_pl, zf_S, zf_i, zf_l, mz1, mz2, mz3, mz4, zr_ii, zr_iw, zr_ia, zr_il, zr_wi, zr_ww, zr_wa, zr_wl, zr_ai, zr_aw, zr_aa, zr_al, zr_li, zr_lw, zr_la, zr_ll, zw_ii, zw_ww, zw_aa, zw_ll, reduceIte, Nat.reduceEqDiff, if_true, if_false]
  rw [hS]
  try simp (disch := omega) only [zi9, zi7, zi40, zi360, zikj, zijd, zi9o, zi7o, zip1, zip, zim1, i32_natN, ziL, zi_0, zi_1]
  rw [← hu, hkn', h29]
  repeat' (first | (exfalso; omega) | (with_reducible refine zb_in ?_ ?_ ?_ ?_; omega; omega; omega) | (with_reducible refine zb_le ?_ ?_ ?_ ?_ (fun _ => ?_) (fun _ => ?_); omega; omega; omega; omega) | (with_reducible refine zb_lt ?_ ?_ ?_ ?_ (fun _ => ?_) (fun _ => ?_); omega; omega; omega; omega) | (with_reducible refine zb_eq ?_ ?_ ?_ ?_ (fun _ => ?_) (fun _ => ?_); omega; omega; omega; omega) | (with_reducible refine zb_leL ?_ ?_ ?_ ?_ (fun _ => ?_) (fun _ => ?_); omega; omega; omega; omega) | (with_reducible refine zb_ltL ?_ ?_ ?_ ?_ (fun _ => ?_) (fun _ => ?_); omega; omega; omega; omega) | (with_reducible refine zb_eqL ?_ ?_ ?_ ?_ (fun _ => ?_) (fun _ => ?_); omega; omega; omega; omega) | (with_reducible refine zb_nz ?_ ?_ ?_ ?_; omega; omega; omega) | (with_reducible refine zb_nzL ?_ ?_ ?_ ?_; omega; omega; omega) | with_reducible refine zb_ite ?_ | with_reducible refine zb_iteL ?_ | ((with_reducible intro y hy); subst hy; try simp only [zl32, zl64, i32_add, i32_sub, i32_mul, i32_neg, i64_add, i64_sub, i64_mul, i64_neg, cv_gi, cv_gw, cv_ga, cv_gl, cv_pi, cv_pw, cv_pa, cv_pl, zf_S, zf_i, zf_l, mz1, mz2, mz3, mz4, zr_ii, zr_iw, zr_ia, zr_il, zr_wi, zr_ww, zr_wa, zr_wl, zr_ai, zr_aw, zr_aa, zr_al, zr_li, zr_lw, zr_la, zr_ll, zw_ii, zw_ww, zw_aa, zw_ll, reduceIte, Nat.reduceEqDiff, if_true, if_false]) | with_reducible refine zb_o1 ?_ | with_reducible refine zb_o2 ?_ | with_reducible refine zb_o3 ?_ | with_reducible refine zb_o4 ?_ | with_reducible refine zb_tr ?_ | exact trivial | with_reducible refine zb_T ?_ | with_reducible refine zb_sp ?_ ?_)
  rw [← hkn']
  -- where it is lowest
  have Lw : ∀ n c : Nat, z + c + n = m + 1 → wM_laysSides_l29 Q (cv u) (i32 kn) (i32 z) (n + 1) (i32 (zlst pts z c : Nat)) (i32 (z + c : Nat)) := by
    intro n
    induction n with
    | zero =>
      intro c hc
      have hc : c = m + 1 - z := by omega
      subst hc
      have hlow : zlst pts z (m + 1 - z) = zlow pts z m := rfl
      have hlm : zlow pts z m ≤ m := by
        rcases Int.lt_or_le (pts z) 0 with q | q
        · have := hzm0 q
          have e : zlow pts z m = z := by
            unfold zlow
            rw [show m + 1 - z = 0 + 1 by omega]
            unfold zlst
            rw [if_pos (by rw [Nat.add_zero]; exact q)]
            rfl
          omega
        · have := (zlst_ok pts z q (m + 1 - z)).2.1
          unfold zlow
          omega
      rw [hlow]
      rw [wM_laysSides_l29]
      try simp only [zl32, zl64, i32_add, i32_sub, i32_mul, i32_neg, i64_add, i64_sub, i64_mul, i64_neg, cv_gi, cv_gw, cv_ga, cv_gl, cv_pi, cv_pw, cv_pa, cv_pl, zf_S, zf_i, zf_l, mz1, mz2, mz3, mz4, zr_ii, zr_iw, zr_ia, zr_il, zr_wi, zr_ww, zr_wa, zr_wl, zr_ai, zr_aw, zr_aa, zr_al, zr_li, zr_lw, zr_la, zr_ll, zw_ii, zw_ww, zw_aa, zw_ll, reduceIte, Nat.reduceEqDiff, if_true, if_false]
      try simp (disch := omega) only [zi9, zi7, zi40, zi360, zikj, zijd, zi9o, zi7o, zip1, zip, zim1, i32_natN, ziL, zi_0, zi_1]
      rw [e25]
      repeat' (first | (exfalso; omega) | (with_reducible refine zb_in ?_ ?_ ?_ ?_; omega; omega; omega) | (with_reducible refine zb_le ?_ ?_ ?_ ?_ (fun _ => ?_) (fun _ => ?_); omega; omega; omega; omega) | (with_reducible refine zb_lt ?_ ?_ ?_ ?_ (fun _ => ?_) (fun _ => ?_); omega; omega; omega; omega) | (with_reducible refine zb_eq ?_ ?_ ?_ ?_ (fun _ => ?_) (fun _ => ?_); omega; omega; omega; omega) | (with_reducible refine zb_leL ?_ ?_ ?_ ?_ (fun _ => ?_) (fun _ => ?_); omega; omega; omega; omega) | (with_reducible refine zb_ltL ?_ ?_ ?_ ?_ (fun _ => ?_) (fun _ => ?_); omega; omega; omega; omega) | (with_reducible refine zb_eqL ?_ ?_ ?_ ?_ (fun _ => ?_) (fun _ => ?_); omega; omega; omega; omega) | (with_reducible refine zb_nz ?_ ?_ ?_ ?_; omega; omega; omega) | (with_reducible refine zb_nzL ?_ ?_ ?_ ?_; omega; omega; omega) | with_reducible refine zb_ite ?_ | with_reducible refine zb_iteL ?_ | ((with_reducible intro y hy); subst hy; try simp only [zl32, zl64, i32_add, i32_sub, i32_mul, i32_neg, i64_add, i64_sub, i64_mul, i64_neg, cv_gi, cv_gw, cv_ga, cv_gl, cv_pi, cv_pw, cv_pa, cv_pl, zf_S, zf_i, zf_l, mz1, mz2, mz3, mz4, zr_ii, zr_iw, zr_ia, zr_il, zr_wi, zr_ww, zr_wa, zr_wl, zr_ai, zr_aw, zr_aa, zr_al, zr_li, zr_lw, zr_la, zr_ll, zw_ii, zw_ww, zw_aa, zw_ll, reduceIte, Nat.reduceEqDiff, if_true, if_false]) | with_reducible refine zb_o1 ?_ | with_reducible refine zb_o2 ?_ | with_reducible refine zb_o3 ?_ | with_reducible refine zb_o4 ?_ | with_reducible refine zb_tr ?_ | exact trivial | with_reducible refine zb_T ?_ | with_reducible refine zb_sp ?_ ?_)
      refine sM_point0 u kn _ pts hptu (by omega) _ ?_
      rcases Int.lt_or_le (pts z) 0 with q | q
      · -- no point at all
        have hm0 := hzm0 q
        have e : zlow pts z m = z := by
          unfold zlow
          rw [show m + 1 - z = 0 + 1 by omega]
          unfold zlst
          rw [if_pos (by rw [Nat.add_zero]; exact q)]
          rfl
        have hh : zhull pts m = [] := by
          unfold zhull
          rw [← hz, if_pos q]
        have hi : zindex pts m = 0 := by
          unfold zindex
          rw [← hz, if_pos q]
        refine ⟨1, ?_⟩
        have u22 : tgi u 22 = (S : Int) := by rw [hu]; exact hS
        have u27 : tga u 27 kn = (S : Int) := by rw [hu, zr_aa, if_neg (by decide), zr_aa, if_pos rfl]; exact zup_at _ _ _
        rw [e, wM_laysSides_l99]
        try simp only [zl32, zl64, i32_add, i32_sub, i32_mul, i32_neg, i64_add, i64_sub, i64_mul, i64_neg, cv_gi, cv_gw, cv_ga, cv_gl, cv_pi, cv_pw, cv_pa, cv_pl, zf_S, zf_i, zf_l, mz1, mz2, mz3, mz4, zr_ii, zr_iw, zr_ia, zr_il, zr_wi, zr_ww, zr_wa, zr_wl, zr_ai, zr_aw, zr_aa, zr_al, zr_li, zr_lw, zr_la, zr_ll, zw_ii, zw_ww, zw_aa, zw_ll, reduceIte, Nat.reduceEqDiff, if_true, if_false]
        rw [u22]
        try simp (disch := omega) only [zi9, zi7, zi40, zi360, zikj, zijd, zi9o, zi7o, zip1, zip, zim1, i32_natN, ziL, zi_0, zi_1]
        rw [u27]
        repeat' (first | (exfalso; omega) | (with_reducible refine zb_in ?_ ?_ ?_ ?_; omega; omega; omega) | (with_reducible refine zb_le ?_ ?_ ?_ ?_ (fun _ => ?_) (fun _ => ?_); omega; omega; omega; omega) | (with_reducible refine zb_lt ?_ ?_ ?_ ?_ (fun _ => ?_) (fun _ => ?_); omega; omega; omega; omega) | (with_reducible refine zb_eq ?_ ?_ ?_ ?_ (fun _ => ?_) (fun _ => ?_); omega; omega; omega; omega) | (with_reducible refine zb_leL ?_ ?_ ?_ ?_ (fun _ => ?_) (fun _ => ?_); omega; omega; omega; omega) | (with_reducible refine zb_ltL ?_ ?_ ?_ ?_ (fun _ => ?_) (fun _ => ?_); omega; omega; omega; omega) | (with_reducible refine zb_eqL ?_ ?_ ?_ ?_ (fun _ => ?_) (fun _ => ?_); omega; omega; omega; omega) | (with_reducible refine zb_nz ?_ ?_ ?_ ?_; omega; omega; omega) | (with_reducible refine zb_nzL ?_ ?_ ?_ ?_; omega; omega; omega) | with_reducible refine zb_ite ?_ | with_reducible refine zb_iteL ?_ | ((with_reducible intro y hy); subst hy; try simp only [zl32, zl64, i32_add, i32_sub, i32_mul, i32_neg, i64_add, i64_sub, i64_mul, i64_neg, cv_gi, cv_gw, cv_ga, cv_gl, cv_pi, cv_pw, cv_pa, cv_pl, zf_S, zf_i, zf_l, mz1, mz2, mz3, mz4, zr_ii, zr_iw, zr_ia, zr_il, zr_wi, zr_ww, zr_wa, zr_wl, zr_ai, zr_aw, zr_aa, zr_al, zr_li, zr_lw, zr_la, zr_ll, zw_ii, zw_ww, zw_aa, zw_ll, reduceIte, Nat.reduceEqDiff, if_true, if_false]) | with_reducible refine zb_o1 ?_ | with_reducible refine zb_o2 ?_ | with_reducible refine zb_o3 ?_ | with_reducible refine zb_o4 ?_ | with_reducible refine zb_tr ?_ | exact trivial | with_reducible refine zb_T ?_ | with_reducible refine zb_sp ?_ ?_)
        rw [hkn'] at hu ⊢
        refine h _ (zfr_sa hfu (by decide)) ?_ (fun j x hx => by rw [hh] at hx; cases hx) ⟨fun k k1 k2 q hq => ?_, fun q hq => ?_, fun q hq => ?_⟩ ?_ ?_ ?_
        · rw [hh, zr_ia, u22]
          rfl
        · rw [zr_aa, if_neg (by omega), hu, zr_aa, if_neg (by omega), zr_aa, if_neg (by omega)]
        · rw [zr_aa, if_neg (by decide), hu]; rfl
        · rw [zr_aa, if_neg (by decide), hu]; rfl
        · rw [zr_aa, if_neg (by decide), hu]; rfl
        · rw [zr_aa, if_pos rfl, hh, hu, Int.sub_self]; rfl
        · rw [zr_aa, if_neg (by decide), hi, hu]; rfl
      · have hl := zlst_ok pts z q (m + 1 - z)
        have hh : zhull pts m = zhl pts (zlow pts z m) 9 z := by
          unfold zhull
          rw [← hz, if_neg (by omega)]
        have hi : zindex pts m = zixs pts (pts (zlow pts z m)) (zhl pts (zlow pts z m) 9 z) := by
          unfold zindex
          rw [← hz, if_neg (by omega), hh]
        refine ⟨10, ?_⟩
        have u27 : tga u 27 kn = (S : Int) := by rw [hu, zr_aa, if_neg (by decide), zr_aa, if_pos rfl]; exact zup_at _ _ _
        rw [hkn'] at u27 hptu ⊢
        have u22 : tgi u 22 = (S : Int) := by rw [hu]; exact hS
        have ew : tgw u = tgw t := hfu.1.symm
        have e0 := hfu.i 0 (by decide)
        have e19 : tgl u 19 = tgl t 19 := hfu.l 19 (by decide)
        rw [hh] at hlen h
        rw [hi] at h
        refine sM_sides_l99 u pa m z pts (by rw [ew, e0, e19]; exact hpts) hm8 (hfu.PR (by decide) (by decide) hP) (hH.moved hfu (by decide) (by decide) (by decide) (by decide) (by decide) (by decide)) (hK.moved hfu (by decide)) (hM.moved hfu (by decide) (by decide)) (by rw [ew]; exact hv) (by rw [e0]; exact hw) (by rw [ew, e19]; exact hits) hptu q hzm S u27 Q 9 z S 0 u (Nat.le_refl _) (by unfold zlow; exact hl.1) q (by omega) (zfr.refl u) u22 (Nat.le_refl _) hlen ?_ (by omega) (by omega) (fun v v1 v2 v3 v4 v5 v6 => ?_)
        · rw [hu, zr_aa, if_pos rfl, hkn', zup_zup]
        · rw [ew, e0, e19] at v3
          refine h v (hfu.trans (v1.mono (by decide) (by decide) (by decide))) v2 v3 ?_ ?_ ?_ ?_
          · have hk : zSk t u S := by
              rw [hu]
              refine ⟨fun k k1 k2 q hq => ?_, fun q hq => ?_, fun q hq => ?_⟩
              · rw [zr_aa, if_neg (by omega), zr_aa, if_neg (by omega)]
              · rfl
              · rfl
            exact hk.trans v4 (Nat.le_refl _)
          · rw [v1.a 27 (by decide), hu, hkn']; rfl
          · rw [v6, hu, zr_aa, if_neg (by decide), zr_aa, if_neg (by decide)]
            congr 1
            omega
          · rw [v5, Int.zero_add, hu, zr_aa, if_pos rfl, hkn', zup_zup]
    | succ n ih =>
      intro c hc
      have e := ih (c + 1) (by omega)
      have hlc : zlst pts z c ≤ z + c := by
        clear ih e hc
        induction c with
        | zero => exact Nat.le_refl _
        | succ c ihc =>
          unfold zlst
          by_cases c1 : pts (z + c) < 0
          · rw [if_pos c1]; omega
          · rw [if_neg c1]
            by_cases c2 : pts (zlst pts z c) < 0 ∨ pts (z + c) < pts (zlst pts z c)
            · rw [if_pos c2]; omega
            · rw [if_neg c2]; omega
      have b1 := hbb (z + c)
      have b2 := hbb (zlst pts z c)
      have eI : ((z + c : Nat) : Int) + 1 = ((z + (c + 1) : Nat) : Int) := by omega
      unfold zlst at e
      rw [wM_laysSides_l29]
      unfold wM_laysSides_j80 wM_laysSides_j75
      try simp only [zl32, zl64, i32_add, i32_sub, i32_mul, i32_neg, i64_add, i64_sub, i64_mul, i64_neg, cv_gi, cv_gw, cv_ga, cv_gl, cv_pi, cv_pw, cv_pa, cv_pl, zf_S, zf_i, zf_l, mz1, mz2, mz3, mz4, zr_ii, zr_iw, zr_ia, zr_il, zr_wi, zr_ww, zr_wa, zr_wl, zr_ai, zr_aw, zr_aa, zr_al, zr_li, zr_lw, zr_la, zr_ll, zw_ii, zw_ww, zw_aa, zw_ll, reduceIte, Nat.reduceEqDiff, if_true, if_false]
      try simp (disch := omega) only [zi9, zi7, zi40, zi360, zikj, zijd, zi9o, zi7o, zip1, zip, zim1, i32_natN, ziL, zi_0, zi_1]
      rw [e25]
      repeat' (first | (exfalso; omega) | (with_reducible refine zb_in ?_ ?_ ?_ ?_; omega; omega; omega) | (with_reducible refine zb_le ?_ ?_ ?_ ?_ (fun _ => ?_) (fun _ => ?_); omega; omega; omega; omega) | (with_reducible refine zb_lt ?_ ?_ ?_ ?_ (fun _ => ?_) (fun _ => ?_); omega; omega; omega; omega) | (with_reducible refine zb_eq ?_ ?_ ?_ ?_ (fun _ => ?_) (fun _ => ?_); omega; omega; omega; omega) | (with_reducible refine zb_leL ?_ ?_ ?_ ?_ (fun _ => ?_) (fun _ => ?_); omega; omega; omega; omega) | (with_reducible refine zb_ltL ?_ ?_ ?_ ?_ (fun _ => ?_) (fun _ => ?_); omega; omega; omega; omega) | (with_reducible refine zb_eqL ?_ ?_ ?_ ?_ (fun _ => ?_) (fun _ => ?_); omega; omega; omega; omega) | (with_reducible refine zb_nz ?_ ?_ ?_ ?_; omega; omega; omega) | (with_reducible refine zb_nzL ?_ ?_ ?_ ?_; omega; omega; omega) | with_reducible refine zb_ite ?_ | with_reducible refine zb_iteL ?_ | ((with_reducible intro y hy); subst hy; try simp only [zl32, zl64, i32_add, i32_sub, i32_mul, i32_neg, i64_add, i64_sub, i64_mul, i64_neg, cv_gi, cv_gw, cv_ga, cv_gl, cv_pi, cv_pw, cv_pa, cv_pl, zf_S, zf_i, zf_l, mz1, mz2, mz3, mz4, zr_ii, zr_iw, zr_ia, zr_il, zr_wi, zr_ww, zr_wa, zr_wl, zr_ai, zr_aw, zr_aa, zr_al, zr_li, zr_lw, zr_la, zr_ll, zw_ii, zw_ww, zw_aa, zw_ll, reduceIte, Nat.reduceEqDiff, if_true, if_false]) | with_reducible refine zb_o1 ?_ | with_reducible refine zb_o2 ?_ | with_reducible refine zb_o3 ?_ | with_reducible refine zb_o4 ?_ | with_reducible refine zb_tr ?_ | exact trivial | with_reducible refine zb_T ?_ | with_reducible refine zb_sp ?_ ?_)
      refine sM_point0 u kn _ pts hptu (by omega) _ ?_
      repeat' (first | (exfalso; omega) | (with_reducible refine zb_in ?_ ?_ ?_ ?_; omega; omega; omega) | (with_reducible refine zb_le ?_ ?_ ?_ ?_ (fun _ => ?_) (fun _ => ?_); omega; omega; omega; omega) | (with_reducible refine zb_lt ?_ ?_ ?_ ?_ (fun _ => ?_) (fun _ => ?_); omega; omega; omega; omega) | (with_reducible refine zb_eq ?_ ?_ ?_ ?_ (fun _ => ?_) (fun _ => ?_); omega; omega; omega; omega) | (with_reducible refine zb_leL ?_ ?_ ?_ ?_ (fun _ => ?_) (fun _ => ?_); omega; omega; omega; omega) | (with_reducible refine zb_ltL ?_ ?_ ?_ ?_ (fun _ => ?_) (fun _ => ?_); omega; omega; omega; omega) | (with_reducible refine zb_eqL ?_ ?_ ?_ ?_ (fun _ => ?_) (fun _ => ?_); omega; omega; omega; omega) | (with_reducible refine zb_nz ?_ ?_ ?_ ?_; omega; omega; omega) | (with_reducible refine zb_nzL ?_ ?_ ?_ ?_; omega; omega; omega) | with_reducible refine zb_ite ?_ | with_reducible refine zb_iteL ?_ | ((with_reducible intro y hy); subst hy; try simp only [zl32, zl64, i32_add, i32_sub, i32_mul, i32_neg, i64_add, i64_sub, i64_mul, i64_neg, cv_gi, cv_gw, cv_ga, cv_gl, cv_pi, cv_pw, cv_pa, cv_pl, zf_S, zf_i, zf_l, mz1, mz2, mz3, mz4, zr_ii, zr_iw, zr_ia, zr_il, zr_wi, zr_ww, zr_wa, zr_wl, zr_ai, zr_aw, zr_aa, zr_al, zr_li, zr_lw, zr_la, zr_ll, zw_ii, zw_ww, zw_aa, zw_ll, reduceIte, Nat.reduceEqDiff, if_true, if_false]) | with_reducible refine zb_o1 ?_ | with_reducible refine zb_o2 ?_ | with_reducible refine zb_o3 ?_ | with_reducible refine zb_o4 ?_ | with_reducible refine zb_tr ?_ | exact trivial | with_reducible refine zb_T ?_ | with_reducible refine zb_sp ?_ ?_)
      · rw [if_pos (by assumption)] at e
        rw [eI]
        exact e
      · rw [if_neg (by assumption)] at e
        refine sM_point0 u kn _ pts hptu (by omega) _ ?_
        repeat' (first | (exfalso; omega) | (with_reducible refine zb_in ?_ ?_ ?_ ?_; omega; omega; omega) | (with_reducible refine zb_le ?_ ?_ ?_ ?_ (fun _ => ?_) (fun _ => ?_); omega; omega; omega; omega) | (with_reducible refine zb_lt ?_ ?_ ?_ ?_ (fun _ => ?_) (fun _ => ?_); omega; omega; omega; omega) | (with_reducible refine zb_eq ?_ ?_ ?_ ?_ (fun _ => ?_) (fun _ => ?_); omega; omega; omega; omega) | (with_reducible refine zb_leL ?_ ?_ ?_ ?_ (fun _ => ?_) (fun _ => ?_); omega; omega; omega; omega) | (with_reducible refine zb_ltL ?_ ?_ ?_ ?_ (fun _ => ?_) (fun _ => ?_); omega; omega; omega; omega) | (with_reducible refine zb_eqL ?_ ?_ ?_ ?_ (fun _ => ?_) (fun _ => ?_); omega; omega; omega; omega) | (with_reducible refine zb_nz ?_ ?_ ?_ ?_; omega; omega; omega) | (with_reducible refine zb_nzL ?_ ?_ ?_ ?_; omega; omega; omega) | with_reducible refine zb_ite ?_ | with_reducible refine zb_iteL ?_ | ((with_reducible intro y hy); subst hy; try simp only [zl32, zl64, i32_add, i32_sub, i32_mul, i32_neg, i64_add, i64_sub, i64_mul, i64_neg, cv_gi, cv_gw, cv_ga, cv_gl, cv_pi, cv_pw, cv_pa, cv_pl, zf_S, zf_i, zf_l, mz1, mz2, mz3, mz4, zr_ii, zr_iw, zr_ia, zr_il, zr_wi, zr_ww, zr_wa, zr_wl, zr_ai, zr_aw, zr_aa, zr_al, zr_li, zr_lw, zr_la, zr_ll, zw_ii, zw_ww, zw_aa, zw_ll, reduceIte, Nat.reduceEqDiff, if_true, if_false]) | with_reducible refine zb_o1 ?_ | with_reducible refine zb_o2 ?_ | with_reducible refine zb_o3 ?_ | with_reducible refine zb_o4 ?_ | with_reducible refine zb_tr ?_ | exact trivial | with_reducible refine zb_T ?_ | with_reducible refine zb_sp ?_ ?_)
        · rw [if_pos (Or.inl (by assumption))] at e
          rw [eI]
          exact e
        · refine sM_point0 u kn _ pts hptu (by omega) _ ?_
          refine sM_point0 u kn _ pts hptu (by omega) _ ?_
          repeat' (first | (exfalso; omega) | (with_reducible refine zb_in ?_ ?_ ?_ ?_; omega; omega; omega) | (with_reducible refine zb_le ?_ ?_ ?_ ?_ (fun _ => ?_) (fun _ => ?_); omega; omega; omega; omega) | (with_reducible refine zb_lt ?_ ?_ ?_ ?_ (fun _ => ?_) (fun _ => ?_); omega; omega; omega; omega) | (with_reducible refine zb_eq ?_ ?_ ?_ ?_ (fun _ => ?_) (fun _ => ?_); omega; omega; omega; omega) | (with_reducible refine zb_leL ?_ ?_ ?_ ?_ (fun _ => ?_) (fun _ => ?_); omega; omega; omega; omega) | (with_reducible refine zb_ltL ?_ ?_ ?_ ?_ (fun _ => ?_) (fun _ => ?_); omega; omega; omega; omega) | (with_reducible refine zb_eqL ?_ ?_ ?_ ?_ (fun _ => ?_) (fun _ => ?_); omega; omega; omega; omega) | (with_reducible refine zb_nz ?_ ?_ ?_ ?_; omega; omega; omega) | (with_reducible refine zb_nzL ?_ ?_ ?_ ?_; omega; omega; omega) | with_reducible refine zb_ite ?_ | with_reducible refine zb_iteL ?_ | ((with_reducible intro y hy); subst hy; try simp only [zl32, zl64, i32_add, i32_sub, i32_mul, i32_neg, i64_add, i64_sub, i64_mul, i64_neg, cv_gi, cv_gw, cv_ga, cv_gl, cv_pi, cv_pw, cv_pa, cv_pl, zf_S, zf_i, zf_l, mz1, mz2, mz3, mz4, zr_ii, zr_iw, zr_ia, zr_il, zr_wi, zr_ww, zr_wa, zr_wl, zr_ai, zr_aw, zr_aa, zr_al, zr_li, zr_lw, zr_la, zr_ll, zw_ii, zw_ww, zw_aa, zw_ll, reduceIte, Nat.reduceEqDiff, if_true, if_false]) | with_reducible refine zb_o1 ?_ | with_reducible refine zb_o2 ?_ | with_reducible refine zb_o3 ?_ | with_reducible refine zb_o4 ?_ | with_reducible refine zb_tr ?_ | exact trivial | with_reducible refine zb_T ?_ | with_reducible refine zb_sp ?_ ?_)
          · rw [if_neg (by omega)] at e
            rw [eI]
            exact e
          · rw [if_pos (by omega)] at e
            rw [eI]
            exact e
  have e := Lw (m + 1 - z) 0 (by omega)
  exact ⟨_, e⟩
/-! leaves; the way to a knot -/
abbrev zL : Type := Int × Int × Int × Int × Int
def zLA (t : tS) (ls : List zL) : Prop := tgi t 23 = (ls.length : Int) ∧ ∀ (i : Nat) (x : zL), ls[i]? = some x → tga t 44 i = x.1 ∧ tga t 45 i = x.2.1 ∧ tga t 46 i = x.2.2.1 ∧ tga t 47 i = x.2.2.2.1 ∧ tga t 48 i = x.2.2.2.2
theorem zLA.moved {t u : tS} {ls : List zL} {ki ka kl : List Nat} (h : zLA t ls) (hf : zfr ki ka kl t u) (h23 : 23 ∉ ki) (h44 : 44 ∉ ka) (h45 : 45 ∉ ka) (h46 : 46 ∉ ka) (h47 : 47 ∉ ka) (h48 : 48 ∉ ka) : zLA u ls := by
  unfold zLA
  rw [hf.i 23 h23, hf.a 44 h44, hf.a 45 h45, hf.a 46 h46, hf.a 47 h47, hf.a 48 h48]
  exact h
theorem sM_addsLeaf (t : tS) (ls : List zL) (a b c d e : Int) (hls : zLA t ls) (hl : ls.length < 20) (Q : mS → Prop) (h : ∀ u, zfr [23] [44, 45, 46, 47, 48] [] t u → zLA u (ls ++ [(a, b, c, d, e)]) → Q (cv u)) : wM_addsLeaf (cv t) (i32 a) (i32 b) (i32 c) (i32 d) (i32 e) Q := by
  have h23 := hls.1
  unfold wM_addsLeaf
  try simp only [zl32, zl64, i32_add, i32_sub, i32_mul, i32_neg, i64_add, i64_sub, i64_mul, i64_neg, cv_gi, cv_gw, cv_ga, cv_gl, cv_pi, cv_pw, cv_pa, cv_pl, zf_S, zf_i, zf_l, mz1, mz2, mz3, mz4, zr_ii, zr_iw, zr_ia, zr_il, zr_wi, zr_ww, zr_wa, zr_wl, zr_ai, zr_aw, zr_aa, zr_al, zr_li, zr_lw, zr_la, zr_ll, zw_ii, zw_ww, zw_aa, zw_ll, reduceIte, Nat.reduceEqDiff, if_true, if_false]
  rw [h23]
  try simp (disch := omega) only [zi9, zi7, zi40, zi360, zikj, zijd, zi9o, zi7o, zip1, zip, zim1, i32_natN, ziL, zi_0, zi_1]
  repeat' (first | (exfalso; omega) | (with_reducible refine zb_in ?_ ?_ ?_ ?_; omega; omega; omega) | (with_reducible refine zb_le ?_ ?_ ?_ ?_ (fun _ => ?_) (fun _ => ?_); omega; omega; omega; omega) | (with_reducible refine zb_lt ?_ ?_ ?_ ?_ (fun _ => ?_) (fun _ => ?_); omega; omega; omega; omega) | (with_reducible refine zb_eq ?_ ?_ ?_ ?_ (fun _ => ?_) (fun _ => ?_); omega; omega; omega; omega) | (with_reducible refine zb_leL ?_ ?_ ?_ ?_ (fun _ => ?_) (fun _ => ?_); omega; omega; omega; omega) | (with_reducible refine zb_ltL ?_ ?_ ?_ ?_ (fun _ => ?_) (fun _ => ?_); omega; omega; omega; omega) | (with_reducible refine zb_eqL ?_ ?_ ?_ ?_ (fun _ => ?_) (fun _ => ?_); omega; omega; omega; omega) | (with_reducible refine zb_nz ?_ ?_ ?_ ?_; omega; omega; omega) | (with_reducible refine zb_nzL ?_ ?_ ?_ ?_; omega; omega; omega) | with_reducible refine zb_ite ?_ | with_reducible refine zb_iteL ?_ | ((with_reducible intro y hy); subst hy; try simp only [zl32, zl64, i32_add, i32_sub, i32_mul, i32_neg, i64_add, i64_sub, i64_mul, i64_neg, cv_gi, cv_gw, cv_ga, cv_gl, cv_pi, cv_pw, cv_pa, cv_pl, zf_S, zf_i, zf_l, mz1, mz2, mz3, mz4, zr_ii, zr_iw, zr_ia, zr_il, zr_wi, zr_ww, zr_wa, zr_wl, zr_ai, zr_aw, zr_aa, zr_al, zr_li, zr_lw, zr_la, zr_ll, zw_ii, zw_ww, zw_aa, zw_ll, reduceIte, Nat.reduceEqDiff, if_true, if_false]) | with_reducible refine zb_o1 ?_ | with_reducible refine zb_o2 ?_ | with_reducible refine zb_o3 ?_ | with_reducible refine zb_o4 ?_ | with_reducible refine zb_tr ?_ | exact trivial | with_reducible refine zb_T ?_ | with_reducible refine zb_sp ?_ ?_)
  refine h _ (zfr_pi (zfr_sa (zfr_sa (zfr_sa (zfr_sa (zfr_sa (zfr.refl t) (by decide)) (by decide)) (by decide)) (by decide)) (by decide)) (by decide)) ⟨?_, fun i x hx => ?_⟩
  · try simp only [zl32, zl64, i32_add, i32_sub, i32_mul, i32_neg, i64_add, i64_sub, i64_mul, i64_neg, cv_gi, cv_gw, cv_ga, cv_gl, cv_pi, cv_pw, cv_pa, cv_pl, zf_S, zf_i, zf_l, mz1, mz2, mz3, mz4, zr_ii, zr_iw, zr_ia, zr_il, zr_wi, zr_ww, zr_wa, zr_wl, zr_ai, zr_aw, zr_aa, zr_al, zr_li, zr_lw, zr_la, zr_ll, zw_ii, zw_ww, zw_aa, zw_ll, reduceIte, Nat.reduceEqDiff, if_true, if_false]
    rw [List.length_append, List.length_singleton]
    omega
  · try simp only [zl32, zl64, i32_add, i32_sub, i32_mul, i32_neg, i64_add, i64_sub, i64_mul, i64_neg, cv_gi, cv_gw, cv_ga, cv_gl, cv_pi, cv_pw, cv_pa, cv_pl, zf_S, zf_i, zf_l, mz1, mz2, mz3, mz4, zr_ii, zr_iw, zr_ia, zr_il, zr_wi, zr_ww, zr_wa, zr_wl, zr_ai, zr_aw, zr_aa, zr_al, zr_li, zr_lw, zr_la, zr_ll, zw_ii, zw_ww, zw_aa, zw_ll, reduceIte, Nat.reduceEqDiff, if_true, if_false]
    rw [List.getElem?_append] at hx
    by_cases c1 : i < ls.length
    · rw [if_pos c1] at hx
      obtain ⟨q1, q2, q3, q4, q5⟩ := hls.2 i x hx
      exact ⟨by rw [zup_ne _ _ (by omega)]; exact q1, by rw [zup_ne _ _ (by omega)]; exact q2, by rw [zup_ne _ _ (by omega)]; exact q3, by rw [zup_ne _ _ (by omega)]; exact q4, by rw [zup_ne _ _ (by omega)]; exact q5⟩
    · rw [if_neg c1] at hx
      have hi : i = ls.length := by
        have := (List.getElem?_eq_some_iff.mp hx).1
        rw [List.length_singleton] at this
        omega
      subst hi
      rw [Nat.sub_self] at hx
      cases hx
      exact ⟨zup_at _ _ _, zup_at _ _ _, zup_at _ _ _, zup_at _ _ _, zup_at _ _ _⟩
/-- the knots of a way stand in the arrays -/
def zWy (t : tS) (pa : zP) : Prop := (∀ k, 1 ≤ k → k ≤ zpL pa → tga t 24 (zpA pa k) = (k : Int) ∧ (2 ≤ k → tga t 26 (zpA pa k) = (zpA pa (k - 1) : Int))) ∧ ∀ k, 1 ≤ k → k < zpL pa → tga t 32 (zpA pa (k + 1)) = (zpR pa k : Int) ∧ tga t 33 (zpA pa (k + 1)) = zpS pa k
theorem zWy.moved {t u : tS} {pa : zP} {ki ka kl : List Nat} (h : zWy t pa) (hf : zfr ki ka kl t u) (h24 : 24 ∉ ka) (h26 : 26 ∉ ka) (h32 : 32 ∉ ka) (h33 : 33 ∉ ka) : zWy u pa := by
  unfold zWy
  rw [hf.a 24 h24, hf.a 26 h26, hf.a 32 h32, hf.a 33 h33]
  exact h
theorem sM_takesKnot_up (t : tS) (pa : zP) {M : Int} (hv : zPv M pa) (hK : zKy t pa) (hW : zWy t pa) (Q : mS → Prop) (h : ∀ u, zfr [49] [50, 51, 52, 53, 54] [] t u → zHd u pa → Q (cv u)) : ∀ n k : Nat, k + n = zpL pa → 1 ≤ k → ∀ u, zfr [49] [50, 51, 52, 53, 54] [] t u → tgi u 49 = (zpL pa : Int) → (∀ j, 1 ≤ j → j ≤ zpL pa → tga u 53 j = (zpA pa j : Int)) → (∀ j, 1 ≤ j → j < zpL pa → tga u 54 j = (zpA pa (j + 1) : Int)) → (∀ j, 1 ≤ j → j ≤ k → tga u 51 j = (zpD pa j : Int)) → (∀ j, 1 ≤ j → j < k → tga u 50 j = (zpR pa j : Int) ∧ tga u 52 j = zpS pa j) → wM_takesKnot_l60 Q (n + 1) (cv u) (i32 k) := by
  have hL6 := hv.2.1
  have hL1 := hv.1
  have hkL := (hK (zpL pa) hL1 (Nat.le_refl _)).1
  have h24 := (hW.1 (zpL pa) hL1 (Nat.le_refl _)).1
  intro n
  induction n with
  | zero =>
    intro k hk hk1 u hu h49 h53 h54 h51 h50
    have hk : k = zpL pa := by omega
    subst hk
    rw [wM_takesKnot_l60]
    try simp only [zl32, zl64, i32_add, i32_sub, i32_mul, i32_neg, i64_add, i64_sub, i64_mul, i64_neg, cv_gi, cv_gw, cv_ga, cv_gl, cv_pi, cv_pw, cv_pa, cv_pl, zf_S, zf_i, zf_l, mz1, mz2, mz3, mz4, zr_ii, zr_iw, zr_ia, zr_il, zr_wi, zr_ww, zr_wa, zr_wl, zr_ai, zr_aw, zr_aa, zr_al, zr_li, zr_lw, zr_la, zr_ll, zw_ii, zw_ww, zw_aa, zw_ll, reduceIte, Nat.reduceEqDiff, if_true, if_false]
    rw [h49]
    repeat' (first | (exfalso; omega) | (with_reducible refine zb_in ?_ ?_ ?_ ?_; omega; omega; omega) | (with_reducible refine zb_le ?_ ?_ ?_ ?_ (fun _ => ?_) (fun _ => ?_); omega; omega; omega; omega) | (with_reducible refine zb_lt ?_ ?_ ?_ ?_ (fun _ => ?_) (fun _ => ?_); omega; omega; omega; omega) | (with_reducible refine zb_eq ?_ ?_ ?_ ?_ (fun _ => ?_) (fun _ => ?_); omega; omega; omega; omega) | (with_reducible refine zb_leL ?_ ?_ ?_ ?_ (fun _ => ?_) (fun _ => ?_); omega; omega; omega; omega) | (with_reducible refine zb_ltL ?_ ?_ ?_ ?_ (fun _ => ?_) (fun _ => ?_); omega; omega; omega; omega) | (with_reducible refine zb_eqL ?_ ?_ ?_ ?_ (fun _ => ?_) (fun _ => ?_); omega; omega; omega; omega) | (with_reducible refine zb_nz ?_ ?_ ?_ ?_; omega; omega; omega) | (with_reducible refine zb_nzL ?_ ?_ ?_ ?_; omega; omega; omega) | with_reducible refine zb_ite ?_ | with_reducible refine zb_iteL ?_ | ((with_reducible intro y hy); subst hy; try simp only [zl32, zl64, i32_add, i32_sub, i32_mul, i32_neg, i64_add, i64_sub, i64_mul, i64_neg, cv_gi, cv_gw, cv_ga, cv_gl, cv_pi, cv_pw, cv_pa, cv_pl, zf_S, zf_i, zf_l, mz1, mz2, mz3, mz4, zr_ii, zr_iw, zr_ia, zr_il, zr_wi, zr_ww, zr_wa, zr_wl, zr_ai, zr_aw, zr_aa, zr_al, zr_li, zr_lw, zr_la, zr_ll, zw_ii, zw_ww, zw_aa, zw_ll, reduceIte, Nat.reduceEqDiff, if_true, if_false]) | with_reducible refine zb_o1 ?_ | with_reducible refine zb_o2 ?_ | with_reducible refine zb_o3 ?_ | with_reducible refine zb_o4 ?_ | with_reducible refine zb_tr ?_ | exact trivial | with_reducible refine zb_T ?_ | with_reducible refine zb_sp ?_ ?_)
    exact h u hu ⟨h49, fun j j1 j2 => ⟨h51 j j1 j2, h53 j j1 j2⟩, fun j j1 j2 => ⟨(h50 j j1 j2).1, (h50 j j1 j2).2, h54 j j1 j2⟩⟩
  | succ n ih =>
    intro k hk hk1 u hu h49 h53 h54 h51 h50
    have hw := hW.2 k hk1 (by omega)
    have hkn := (hK (k + 1) (by omega) (by omega)).1
    have u32 : tga u 32 = tga t 32 := hu.a 32 (by decide)
    have u33 : tga u 33 = tga t 33 := hu.a 33 (by decide)
    rw [wM_takesKnot_l60]
    try simp only [zl32, zl64, i32_add, i32_sub, i32_mul, i32_neg, i64_add, i64_sub, i64_mul, i64_neg, cv_gi, cv_gw, cv_ga, cv_gl, cv_pi, cv_pw, cv_pa, cv_pl, zf_S, zf_i, zf_l, mz1, mz2, mz3, mz4, zr_ii, zr_iw, zr_ia, zr_il, zr_wi, zr_ww, zr_wa, zr_wl, zr_ai, zr_aw, zr_aa, zr_al, zr_li, zr_lw, zr_la, zr_ll, zw_ii, zw_ww, zw_aa, zw_ll, reduceIte, Nat.reduceEqDiff, if_true, if_false]
    try simp (disch := omega) only [zi9, zi7, zi40, zi360, zikj, zijd, zi9o, zi7o, zip1, zip, zim1, i32_natN, ziL, zi_0, zi_1]
    rw [h49, h54 k hk1 (by omega), u32, u33]
    try simp (disch := omega) only [zi9, zi7, zi40, zi360, zikj, zijd, zi9o, zi7o, zip1, zip, zim1, i32_natN, ziL, zi_0, zi_1]
    rw [hw.1, hw.2, h51 k hk1 (Nat.le_refl _), zup_at]
    repeat' (first | (exfalso; omega) | (with_reducible refine zb_in ?_ ?_ ?_ ?_; omega; omega; omega) | (with_reducible refine zb_le ?_ ?_ ?_ ?_ (fun _ => ?_) (fun _ => ?_); omega; omega; omega; omega) | (with_reducible refine zb_lt ?_ ?_ ?_ ?_ (fun _ => ?_) (fun _ => ?_); omega; omega; omega; omega) | (with_reducible refine zb_eq ?_ ?_ ?_ ?_ (fun _ => ?_) (fun _ => ?_); omega; omega; omega; omega) | (with_reducible refine zb_leL ?_ ?_ ?_ ?_ (fun _ => ?_) (fun _ => ?_); omega; omega; omega; omega) | (with_reducible refine zb_ltL ?_ ?_ ?_ ?_ (fun _ => ?_) (fun _ => ?_); omega; omega; omega; omega) | (with_reducible refine zb_eqL ?_ ?_ ?_ ?_ (fun _ => ?_) (fun _ => ?_); omega; omega; omega; omega) | (with_reducible refine zb_nz ?_ ?_ ?_ ?_; omega; omega; omega) | (with_reducible refine zb_nzL ?_ ?_ ?_ ?_; omega; omega; omega) | with_reducible refine zb_ite ?_ | with_reducible refine zb_iteL ?_ | ((with_reducible intro y hy); subst hy; try simp only [zl32, zl64, i32_add, i32_sub, i32_mul, i32_neg, i64_add, i64_sub, i64_mul, i64_neg, cv_gi, cv_gw, cv_ga, cv_gl, cv_pi, cv_pw, cv_pa, cv_pl, zf_S, zf_i, zf_l, mz1, mz2, mz3, mz4, zr_ii, zr_iw, zr_ia, zr_il, zr_wi, zr_ww, zr_wa, zr_wl, zr_ai, zr_aw, zr_aa, zr_al, zr_li, zr_lw, zr_la, zr_ll, zw_ii, zw_ww, zw_aa, zw_ll, reduceIte, Nat.reduceEqDiff, if_true, if_false]) | with_reducible refine zb_o1 ?_ | with_reducible refine zb_o2 ?_ | with_reducible refine zb_o3 ?_ | with_reducible refine zb_o4 ?_ | with_reducible refine zb_tr ?_ | exact trivial | with_reducible refine zb_T ?_ | with_reducible refine zb_sp ?_ ?_)
    refine ih (k + 1) (by omega) (by omega) _ (zfr_sa (zfr_sa (zfr_sa hu (by decide)) (by decide)) (by decide)) (by try simp only [zl32, zl64, i32_add, i32_sub, i32_mul, i32_neg, i64_add, i64_sub, i64_mul, i64_neg, cv_gi, cv_gw, cv_ga, cv_gl, cv_pi, cv_pw, cv_pa, cv_pl, zf_S, zf_i, zf_l, mz1, mz2, mz3, mz4, zr_ii, zr_iw, zr_ia, zr_il, zr_wi, zr_ww, zr_wa, zr_wl, zr_ai, zr_aw, zr_aa, zr_al, zr_li, zr_lw, zr_la, zr_ll, zw_ii, zw_ww, zw_aa, zw_ll, reduceIte, Nat.reduceEqDiff, if_true, if_false]; exact h49) (by try simp only [zl32, zl64, i32_add, i32_sub, i32_mul, i32_neg, i64_add, i64_sub, i64_mul, i64_neg, cv_gi, cv_gw, cv_ga, cv_gl, cv_pi, cv_pw, cv_pa, cv_pl, zf_S, zf_i, zf_l, mz1, mz2, mz3, mz4, zr_ii, zr_iw, zr_ia, zr_il, zr_wi, zr_ww, zr_wa, zr_wl, zr_ai, zr_aw, zr_aa, zr_al, zr_li, zr_lw, zr_la, zr_ll, zw_ii, zw_ww, zw_aa, zw_ll, reduceIte, Nat.reduceEqDiff, if_true, if_false]; exact h53) (by try simp only [zl32, zl64, i32_add, i32_sub, i32_mul, i32_neg, i64_add, i64_sub, i64_mul, i64_neg, cv_gi, cv_gw, cv_ga, cv_gl, cv_pi, cv_pw, cv_pa, cv_pl, zf_S, zf_i, zf_l, mz1, mz2, mz3, mz4, zr_ii, zr_iw, zr_ia, zr_il, zr_wi, zr_ww, zr_wa, zr_wl, zr_ai, zr_aw, zr_aa, zr_al, zr_li, zr_lw, zr_la, zr_ll, zw_ii, zw_ww, zw_aa, zw_ll, reduceIte, Nat.reduceEqDiff, if_true, if_false]; exact h54) (fun j j1 j2 => ?_) (fun j j1 j2 => ?_)
    · try simp only [zl32, zl64, i32_add, i32_sub, i32_mul, i32_neg, i64_add, i64_sub, i64_mul, i64_neg, cv_gi, cv_gw, cv_ga, cv_gl, cv_pi, cv_pw, cv_pa, cv_pl, zf_S, zf_i, zf_l, mz1, mz2, mz3, mz4, zr_ii, zr_iw, zr_ia, zr_il, zr_wi, zr_ww, zr_wa, zr_wl, zr_ai, zr_aw, zr_aa, zr_al, zr_li, zr_lw, zr_la, zr_ll, zw_ii, zw_ww, zw_aa, zw_ll, reduceIte, Nat.reduceEqDiff, if_true, if_false]
      by_cases c : j = k + 1
      · rw [c, zup_at, hv.Ds hk1, Int.natCast_mul]
      · rw [zup_ne _ _ c]
        exact h51 j j1 (by omega)
    · try simp only [zl32, zl64, i32_add, i32_sub, i32_mul, i32_neg, i64_add, i64_sub, i64_mul, i64_neg, cv_gi, cv_gw, cv_ga, cv_gl, cv_pi, cv_pw, cv_pa, cv_pl, zf_S, zf_i, zf_l, mz1, mz2, mz3, mz4, zr_ii, zr_iw, zr_ia, zr_il, zr_wi, zr_ww, zr_wa, zr_wl, zr_ai, zr_aw, zr_aa, zr_al, zr_li, zr_lw, zr_la, zr_ll, zw_ii, zw_ww, zw_aa, zw_ll, reduceIte, Nat.reduceEqDiff, if_true, if_false]
      by_cases c : j = k
      · rw [c, zup_at, zup_at]
        exact ⟨rfl, rfl⟩
      · rw [zup_ne _ _ c, zup_ne _ _ c]
        exact h50 j j1 (by omega)
theorem sM_takesKnot_dn (t : tS) (pa : zP) {M : Int} (hv : zPv M pa) (hK : zKy t pa) (hW : zWy t pa) (Q : mS → Prop) (h : ∀ u, zfr [49] [50, 51, 52, 53, 54] [] t u → zHd u pa → Q (cv u)) : ∀ k : Nat, k ≤ zpL pa → ∀ (u : tS) (at_ : Int), (1 ≤ k → at_ = (zpA pa k : Int)) → zfr [49] [50, 51, 52, 53, 54] [] t u → tgi u 49 = (zpL pa : Int) → (∀ j, k < j → j ≤ zpL pa → tga u 53 j = (zpA pa j : Int)) → (∀ j, k ≤ j → 1 ≤ j → j < zpL pa → tga u 54 j = (zpA pa (j + 1) : Int)) → wM_takesKnot_l17 Q (k + 1) (cv u) (i32 at_) (i32 k) := by
  have hL6 := hv.2.1
  have hL1 := hv.1
  have hkL := (hK (zpL pa) hL1 (Nat.le_refl _)).1
  have h24 := (hW.1 (zpL pa) hL1 (Nat.le_refl _)).1
  have U := sM_takesKnot_up t pa hv hK hW Q h
  intro k
  induction k with
  | zero =>
    intro hk u at_ ha hu h49 h53 h54
    rw [wM_takesKnot_l17]
    try simp only [zl32, zl64, i32_add, i32_sub, i32_mul, i32_neg, i64_add, i64_sub, i64_mul, i64_neg, cv_gi, cv_gw, cv_ga, cv_gl, cv_pi, cv_pw, cv_pa, cv_pl, zf_S, zf_i, zf_l, mz1, mz2, mz3, mz4]
    try simp (disch := omega) only [zi9, zi7, zi40, zi360, zikj, zijd, zi9o, zi7o, zip1, zip, zim1, i32_natN, ziL, zi_0, zi_1]
    repeat' (first | (exfalso; omega) | (with_reducible refine zb_in ?_ ?_ ?_ ?_; omega; omega; omega) | (with_reducible refine zb_le ?_ ?_ ?_ ?_ (fun _ => ?_) (fun _ => ?_); omega; omega; omega; omega) | (with_reducible refine zb_lt ?_ ?_ ?_ ?_ (fun _ => ?_) (fun _ => ?_); omega; omega; omega; omega) | (with_reducible refine zb_eq ?_ ?_ ?_ ?_ (fun _ => ?_) (fun _ => ?_); omega; omega; omega; omega) | (with_reducible refine zb_leL ?_ ?_ ?_ ?_ (fun _ => ?_) (fun _ => ?_); omega; omega; omega; omega) | (with_reducible refine zb_ltL ?_ ?_ ?_ ?_ (fun _ => ?_) (fun _ => ?_); omega; omega; omega; omega) | (with_reducible refine zb_eqL ?_ ?_ ?_ ?_ (fun _ => ?_) (fun _ => ?_); omega; omega; omega; omega) | (with_reducible refine zb_nz ?_ ?_ ?_ ?_; omega; omega; omega) | (with_reducible refine zb_nzL ?_ ?_ ?_ ?_; omega; omega; omega) | with_reducible refine zb_ite ?_ | with_reducible refine zb_iteL ?_ | ((with_reducible intro y hy); subst hy; try simp only [zl32, zl64, i32_add, i32_sub, i32_mul, i32_neg, i64_add, i64_sub, i64_mul, i64_neg, cv_gi, cv_gw, cv_ga, cv_gl, cv_pi, cv_pw, cv_pa, cv_pl, zf_S, zf_i, zf_l, mz1, mz2, mz3, mz4, zr_ii, zr_iw, zr_ia, zr_il, zr_wi, zr_ww, zr_wa, zr_wl, zr_ai, zr_aw, zr_aa, zr_al, zr_li, zr_lw, zr_la, zr_ll, zw_ii, zw_ww, zw_aa, zw_ll, reduceIte, Nat.reduceEqDiff, if_true, if_false]) | with_reducible refine zb_o1 ?_ | with_reducible refine zb_o2 ?_ | with_reducible refine zb_o3 ?_ | with_reducible refine zb_o4 ?_ | with_reducible refine zb_tr ?_ | exact trivial | with_reducible refine zb_T ?_ | with_reducible refine zb_sp ?_ ?_)
    have e := U (zpL pa - 1) 1 (by omega) (Nat.le_refl _) (tsa u 51 (zup (tga u 51) 1 1)) (zfr_sa hu (by decide)) (by try simp only [zl32, zl64, i32_add, i32_sub, i32_mul, i32_neg, i64_add, i64_sub, i64_mul, i64_neg, cv_gi, cv_gw, cv_ga, cv_gl, cv_pi, cv_pw, cv_pa, cv_pl, zf_S, zf_i, zf_l, mz1, mz2, mz3, mz4, zr_ii, zr_iw, zr_ia, zr_il, zr_wi, zr_ww, zr_wa, zr_wl, zr_ai, zr_aw, zr_aa, zr_al, zr_li, zr_lw, zr_la, zr_ll, zw_ii, zw_ww, zw_aa, zw_ll, reduceIte, Nat.reduceEqDiff, if_true, if_false]; exact h49) (by try simp only [zl32, zl64, i32_add, i32_sub, i32_mul, i32_neg, i64_add, i64_sub, i64_mul, i64_neg, cv_gi, cv_gw, cv_ga, cv_gl, cv_pi, cv_pw, cv_pa, cv_pl, zf_S, zf_i, zf_l, mz1, mz2, mz3, mz4, zr_ii, zr_iw, zr_ia, zr_il, zr_wi, zr_ww, zr_wa, zr_wl, zr_ai, zr_aw, zr_aa, zr_al, zr_li, zr_lw, zr_la, zr_ll, zw_ii, zw_ww, zw_aa, zw_ll, reduceIte, Nat.reduceEqDiff, if_true, if_false]; exact fun j j1 j2 => h53 j j1 j2) (by try simp only [zl32, zl64, i32_add, i32_sub, i32_mul, i32_neg, i64_add, i64_sub, i64_mul, i64_neg, cv_gi, cv_gw, cv_ga, cv_gl, cv_pi, cv_pw, cv_pa, cv_pl, zf_S, zf_i, zf_l, mz1, mz2, mz3, mz4, zr_ii, zr_iw, zr_ia, zr_il, zr_wi, zr_ww, zr_wa, zr_wl, zr_ai, zr_aw, zr_aa, zr_al, zr_li, zr_lw, zr_la, zr_ll, zw_ii, zw_ww, zw_aa, zw_ll, reduceIte, Nat.reduceEqDiff, if_true, if_false]; exact fun j j1 j2 => h54 j (by omega) j1 j2) (fun j j1 j2 => by
      try simp only [zl32, zl64, i32_add, i32_sub, i32_mul, i32_neg, i64_add, i64_sub, i64_mul, i64_neg, cv_gi, cv_gw, cv_ga, cv_gl, cv_pi, cv_pw, cv_pa, cv_pl, zf_S, zf_i, zf_l, mz1, mz2, mz3, mz4, zr_ii, zr_iw, zr_ia, zr_il, zr_wi, zr_ww, zr_wa, zr_wl, zr_ai, zr_aw, zr_aa, zr_al, zr_li, zr_lw, zr_la, zr_ll, zw_ii, zw_ww, zw_aa, zw_ll, reduceIte, Nat.reduceEqDiff, if_true, if_false]
      have : j = 1 := by omega
      rw [this, zup_at, show zpD pa 1 = 1 from zD_1 _]
      rfl) (fun j j1 j2 => by omega)
    exact ⟨_, e⟩
  | succ k ih =>
    intro hk u at_ ha hu h49 h53 h54
    have hw := hW.1 (k + 1) (by omega) hk
    have hkn := (hK (k + 1) (by omega) hk).1
    have u26 : tga u 26 = tga t 26 := hu.a 26 (by decide)
    rw [ha (by omega)]
    rw [wM_takesKnot_l17]
    try simp only [zl32, zl64, i32_add, i32_sub, i32_mul, i32_neg, i64_add, i64_sub, i64_mul, i64_neg, cv_gi, cv_gw, cv_ga, cv_gl, cv_pi, cv_pw, cv_pa, cv_pl, zf_S, zf_i, zf_l, mz1, mz2, mz3, mz4]
    rw [show ((k + 1 : Nat) : Int) - 1 = (k : Int) by omega, show ((k + 1 : Nat) : Int) + -1 = (k : Int) by omega]
    try simp (disch := omega) only [zi9, zi7, zi40, zi360, zikj, zijd, zi9o, zi7o, zip1, zip, zim1, i32_natN, ziL, zi_0, zi_1]
    simp only [zr_aa]
    simp only [if_neg (show ¬ 54 = 53 by decide)]
    rw [if_neg (show ¬ 26 = 54 by decide)]
    rw [if_neg (show ¬ 26 = 53 by decide)]
    rw [u26]
    repeat' (first | (exfalso; omega) | (with_reducible refine zb_in ?_ ?_ ?_ ?_; omega; omega; omega) | (with_reducible refine zb_le ?_ ?_ ?_ ?_ (fun _ => ?_) (fun _ => ?_); omega; omega; omega; omega) | (with_reducible refine zb_lt ?_ ?_ ?_ ?_ (fun _ => ?_) (fun _ => ?_); omega; omega; omega; omega) | (with_reducible refine zb_eq ?_ ?_ ?_ ?_ (fun _ => ?_) (fun _ => ?_); omega; omega; omega; omega) | (with_reducible refine zb_leL ?_ ?_ ?_ ?_ (fun _ => ?_) (fun _ => ?_); omega; omega; omega; omega) | (with_reducible refine zb_ltL ?_ ?_ ?_ ?_ (fun _ => ?_) (fun _ => ?_); omega; omega; omega; omega) | (with_reducible refine zb_eqL ?_ ?_ ?_ ?_ (fun _ => ?_) (fun _ => ?_); omega; omega; omega; omega) | (with_reducible refine zb_nz ?_ ?_ ?_ ?_; omega; omega; omega) | (with_reducible refine zb_nzL ?_ ?_ ?_ ?_; omega; omega; omega) | with_reducible refine zb_ite ?_ | with_reducible refine zb_iteL ?_ | ((with_reducible intro y hy); subst hy; try simp only [zl32, zl64, i32_add, i32_sub, i32_mul, i32_neg, i64_add, i64_sub, i64_mul, i64_neg, cv_gi, cv_gw, cv_ga, cv_gl, cv_pi, cv_pw, cv_pa, cv_pl, zf_S, zf_i, zf_l, mz1, mz2, mz3, mz4, zr_ii, zr_iw, zr_ia, zr_il, zr_wi, zr_ww, zr_wa, zr_wl, zr_ai, zr_aw, zr_aa, zr_al, zr_li, zr_lw, zr_la, zr_ll, zw_ii, zw_ww, zw_aa, zw_ll, reduceIte, Nat.reduceEqDiff, if_true, if_false]) | with_reducible refine zb_o1 ?_ | with_reducible refine zb_o2 ?_ | with_reducible refine zb_o3 ?_ | with_reducible refine zb_o4 ?_ | with_reducible refine zb_tr ?_ | exact trivial | with_reducible refine zb_T ?_ | with_reducible refine zb_sp ?_ ?_)
    refine ih (by omega) _ _ (fun hk1 => ?_) (zfr_sa (zfr_sa hu (by decide)) (by decide)) (by try simp only [zl32, zl64, i32_add, i32_sub, i32_mul, i32_neg, i64_add, i64_sub, i64_mul, i64_neg, cv_gi, cv_gw, cv_ga, cv_gl, cv_pi, cv_pw, cv_pa, cv_pl, zf_S, zf_i, zf_l, mz1, mz2, mz3, mz4, zr_ii, zr_iw, zr_ia, zr_il, zr_wi, zr_ww, zr_wa, zr_wl, zr_ai, zr_aw, zr_aa, zr_al, zr_li, zr_lw, zr_la, zr_ll, zw_ii, zw_ww, zw_aa, zw_ll, reduceIte, Nat.reduceEqDiff, if_true, if_false]; exact h49) (fun j j1 j2 => ?_) (fun j j1 j2 j3 => ?_)
    · have := hw.2 (by omega)
      rw [show k + 1 - 1 = k by omega] at this
      exact this
    · try simp only [zl32, zl64, i32_add, i32_sub, i32_mul, i32_neg, i64_add, i64_sub, i64_mul, i64_neg, cv_gi, cv_gw, cv_ga, cv_gl, cv_pi, cv_pw, cv_pa, cv_pl, zf_S, zf_i, zf_l, mz1, mz2, mz3, mz4, zr_ii, zr_iw, zr_ia, zr_il, zr_wi, zr_ww, zr_wa, zr_wl, zr_ai, zr_aw, zr_aa, zr_al, zr_li, zr_lw, zr_la, zr_ll, zw_ii, zw_ww, zw_aa, zw_ll, reduceIte, Nat.reduceEqDiff, if_true, if_false]
      by_cases c : j = k + 1
      · rw [c, zup_at]
      · rw [zup_ne _ _ c]
        exact h53 j (by omega) j2
    · try simp only [zl32, zl64, i32_add, i32_sub, i32_mul, i32_neg, i64_add, i64_sub, i64_mul, i64_neg, cv_gi, cv_gw, cv_ga, cv_gl, cv_pi, cv_pw, cv_pa, cv_pl, zf_S, zf_i, zf_l, mz1, mz2, mz3, mz4, zr_ii, zr_iw, zr_ia, zr_il, zr_wi, zr_ww, zr_wa, zr_wl, zr_ai, zr_aw, zr_aa, zr_al, zr_li, zr_lw, zr_la, zr_ll, zw_ii, zw_ww, zw_aa, zw_ll, reduceIte, Nat.reduceEqDiff, if_true, if_false]
      by_cases c : j = k
      · rw [c, zup_at]
      · rw [zup_ne _ _ c]
        exact h54 j (by omega) j2 j3
theorem sM_takesKnot (t : tS) (pa : zP) {M : Int} (hv : zPv M pa) (hK : zKy t pa) (hW : zWy t pa) (Q : mS → Prop) (h : ∀ u, zfr [49] [50, 51, 52, 53, 54] [] t u → zHd u pa → Q (cv u)) : wM_takesKnot (cv t) (i32 (zpA pa (zpL pa))) Q := by
  have hL6 := hv.2.1
  have hL1 := hv.1
  have hkL := (hK (zpL pa) hL1 (Nat.le_refl _)).1
  have h24 := (hW.1 (zpL pa) hL1 (Nat.le_refl _)).1
  have D := sM_takesKnot_dn t pa hv hK hW Q h
  unfold wM_takesKnot
  try simp only [zl32, zl64, i32_add, i32_sub, i32_mul, i32_neg, i64_add, i64_sub, i64_mul, i64_neg, cv_gi, cv_gw, cv_ga, cv_gl, cv_pi, cv_pw, cv_pa, cv_pl, zf_S, zf_i, zf_l, mz1, mz2, mz3, mz4, zr_ii, zr_iw, zr_ia, zr_il, zr_wi, zr_ww, zr_wa, zr_wl, zr_ai, zr_aw, zr_aa, zr_al, zr_li, zr_lw, zr_la, zr_ll, zw_ii, zw_ww, zw_aa, zw_ll, reduceIte, Nat.reduceEqDiff, if_true, if_false]
  try simp (disch := omega) only [zi9, zi7, zi40, zi360, zikj, zijd, zi9o, zi7o, zip1, zip, zim1, i32_natN, ziL, zi_0, zi_1]
  rw [h24]
  repeat' (first | (exfalso; omega) | (with_reducible refine zb_in ?_ ?_ ?_ ?_; omega; omega; omega) | (with_reducible refine zb_le ?_ ?_ ?_ ?_ (fun _ => ?_) (fun _ => ?_); omega; omega; omega; omega) | (with_reducible refine zb_lt ?_ ?_ ?_ ?_ (fun _ => ?_) (fun _ => ?_); omega; omega; omega; omega) | (with_reducible refine zb_eq ?_ ?_ ?_ ?_ (fun _ => ?_) (fun _ => ?_); omega; omega; omega; omega) | (with_reducible refine zb_leL ?_ ?_ ?_ ?_ (fun _ => ?_) (fun _ => ?_); omega; omega; omega; omega) | (with_reducible refine zb_ltL ?_ ?_ ?_ ?_ (fun _ => ?_) (fun _ => ?_); omega; omega; omega; omega) | (with_reducible refine zb_eqL ?_ ?_ ?_ ?_ (fun _ => ?_) (fun _ => ?_); omega; omega; omega; omega) | (with_reducible refine zb_nz ?_ ?_ ?_ ?_; omega; omega; omega) | (with_reducible refine zb_nzL ?_ ?_ ?_ ?_; omega; omega; omega) | with_reducible refine zb_ite ?_ | with_reducible refine zb_iteL ?_ | ((with_reducible intro y hy); subst hy; try simp only [zl32, zl64, i32_add, i32_sub, i32_mul, i32_neg, i64_add, i64_sub, i64_mul, i64_neg, cv_gi, cv_gw, cv_ga, cv_gl, cv_pi, cv_pw, cv_pa, cv_pl, zf_S, zf_i, zf_l, mz1, mz2, mz3, mz4, zr_ii, zr_iw, zr_ia, zr_il, zr_wi, zr_ww, zr_wa, zr_wl, zr_ai, zr_aw, zr_aa, zr_al, zr_li, zr_lw, zr_la, zr_ll, zw_ii, zw_ww, zw_aa, zw_ll, reduceIte, Nat.reduceEqDiff, if_true, if_false]) | with_reducible refine zb_o1 ?_ | with_reducible refine zb_o2 ?_ | with_reducible refine zb_o3 ?_ | with_reducible refine zb_o4 ?_ | with_reducible refine zb_tr ?_ | exact trivial | with_reducible refine zb_T ?_ | with_reducible refine zb_sp ?_ ?_)
  have e := D (zpL pa) (Nat.le_refl _) (tpi t 49 (zpL pa)) (zpA pa (zpL pa)) (fun _ => rfl) (zfr_pi (zfr.refl t) (by decide)) (by try simp only [zl32, zl64, i32_add, i32_sub, i32_mul, i32_neg, i64_add, i64_sub, i64_mul, i64_neg, cv_gi, cv_gw, cv_ga, cv_gl, cv_pi, cv_pw, cv_pa, cv_pl, zf_S, zf_i, zf_l, mz1, mz2, mz3, mz4, zr_ii, zr_iw, zr_ia, zr_il, zr_wi, zr_ww, zr_wa, zr_wl, zr_ai, zr_aw, zr_aa, zr_al, zr_li, zr_lw, zr_la, zr_ll, zw_ii, zw_ww, zw_aa, zw_ll, reduceIte, Nat.reduceEqDiff, if_true, if_false]) (fun j j1 j2 => by omega) (fun j j1 j2 j3 => by omega)
  exact ⟨_, e⟩
