/-! PURE 33: the model's tree from its root -/
set_option maxRecDepth 100000
def zky0 (M p : Int) (fa : zF) : Nat → Int := fun k => if k = 0 then (-zroot p fa) % M else if k = 1 then 1 else 0
theorem zky0_red {M p : Int} (hM : 2 ≤ M) (fa : zF) : zred M 9 (zky0 M p fa) := by
  intro q _
  unfold zky0
  by_cases c : q = 0
  · rw [if_pos c]
    exact ⟨Int.emod_nonneg _ (by omega), Int.emod_lt_of_pos _ (by omega)⟩
  · rw [if_neg c]
    by_cases c2 : q = 1
    · rw [if_pos c2]; omega
    · rw [if_neg c2]; omega
theorem sM_takesFirst (t : tS) (i : Nat) (f : Nat → Int) (T : zT) (fs : List zF) (fa : zF) (hT : zTR t f T) (hfs : zFA t fs) (hi : fs[i]? = some fa) (hi9 : i < 9) (hfa : zfok fa) (hfr : 0 ≤ fa.2.2 0 ∧ fa.2.2 0 < tgi t 0) (hfb : fa.1 * fa.2.1 ≤ 8) (hl : T.2.length < 20) (hk40 : T.1.length < 40) (h61 : tgi t 61 = 0) (hS64 : zso (tgw t) (tgi t 0) f T.1 + 8 ≤ 64) (Q : mS → Prop)
    (hlf : (fa.2.1 = 1 ∨ 1 < fa.1) → ∀ v, zfr [23] [44, 45, 46, 47, 48] [] t v → zTR v f (ztf (tgw t) (tgi t 0) f T fa) → Q (cv v))
    (hkn : ¬ (fa.2.1 = 1 ∨ 1 < fa.1) → 2 ≤ fa.2.1 → fa.2.1 ≤ 8 → ∀ v, zGr t v → zTR v f (zst0 (tgw t) (tgi t 0) f (ztop T.1.length (zky0 (tgw t) (tgi t 0) fa)) fa.2.1 T) → tgi v 61 = 1 → tga v 58 = zup (tga t 58) 1 T.1.length → tga v 59 = zup (tga t 59) 1 0 → tga v 60 = zup (tga t 60) 1 0 → Q (cv v)) : wM_takesFirst (cv t) (i32 i) Q := by
  have hP := hT.1
  have hw := hP.w
  have hp := hP.p
  have hls := hT.2.2.2.2.2.1
  obtain ⟨fd, ft, fc⟩ := hfs.2 i fa hi
  have hf1 := hfa.1
  have hf2 := hfa.2
  have hff1 : fa.1 ≤ fa.1 * fa.2.1 := Nat.le_mul_of_pos_right _ hf2
  have hff2 : fa.2.1 ≤ fa.1 * fa.2.1 := Nat.le_mul_of_pos_left _ hf1
  have leaf : ∀ (l : zL) u, zfr [23] [44, 45, 46, 47, 48] [] t u → zLA u (T.2 ++ [l]) → zTR u f (T.1, T.2 ++ [l]) := fun l u f1 f2 => hT.leaf f1 (by decide) (by decide) (by decide) (by decide) (fun k a b => by simp; omega) (by decide) (by decide) f2
  unfold ztf at hlf
  unfold wM_takesFirst
  try simp only [zl32, zl64, i32_add, i32_sub, i32_mul, i32_neg, i64_add, i64_sub, i64_mul, i64_neg, cv_gi, cv_gw, cv_ga, cv_gl, cv_pi, cv_pw, cv_pa, cv_pl, zf_S, zf_i, zf_l, mz1, mz2, mz3, mz4, zr_ii, zr_iw, zr_ia, zr_il, zr_wi, zr_ww, zr_wa, zr_wl, zr_ai, zr_aw, zr_aa, zr_al, zr_li, zr_lw, zr_la, zr_ll, zw_ii, zw_ww, zw_aa, zw_ll, reduceIte, Nat.reduceEqDiff, if_true, if_false]
  try simp (disch := omega) only [zi9, zi7, zi40, zi360, zikj, zijd, zi9o, zi7o, zip1, zip, zim1, i32_natN, ziL, zi_0, zi_1]
  rw [ft, fd]
  repeat' (first | (exfalso; omega) | (with_reducible refine zb_in ?_ ?_ ?_ ?_; omega; omega; omega) | (with_reducible refine zb_le ?_ ?_ ?_ ?_ (fun _ => ?_) (fun _ => ?_); omega; omega; omega; omega) | (with_reducible refine zb_lt ?_ ?_ ?_ ?_ (fun _ => ?_) (fun _ => ?_); omega; omega; omega; omega) | (with_reducible refine zb_eq ?_ ?_ ?_ ?_ (fun _ => ?_) (fun _ => ?_); omega; omega; omega; omega) | (with_reducible refine zb_leL ?_ ?_ ?_ ?_ (fun _ => ?_) (fun _ => ?_); omega; omega; omega; omega) | (with_reducible refine zb_ltL ?_ ?_ ?_ ?_ (fun _ => ?_) (fun _ => ?_); omega; omega; omega; omega) | (with_reducible refine zb_eqL ?_ ?_ ?_ ?_ (fun _ => ?_) (fun _ => ?_); omega; omega; omega; omega) | (with_reducible refine zb_nz ?_ ?_ ?_ ?_; omega; omega; omega) | (with_reducible refine zb_nzL ?_ ?_ ?_ ?_; omega; omega; omega) | with_reducible refine zb_ite ?_ | with_reducible refine zb_iteL ?_ | ((with_reducible intro y hy); subst hy; try simp only [zl32, zl64, i32_add, i32_sub, i32_mul, i32_neg, i64_add, i64_sub, i64_mul, i64_neg, cv_gi, cv_gw, cv_ga, cv_gl, cv_pi, cv_pw, cv_pa, cv_pl, zf_S, zf_i, zf_l, mz1, mz2, mz3, mz4, zr_ii, zr_iw, zr_ia, zr_il, zr_wi, zr_ww, zr_wa, zr_wl, zr_ai, zr_aw, zr_aa, zr_al, zr_li, zr_lw, zr_la, zr_ll, zw_ii, zw_ww, zw_aa, zw_ll, reduceIte, Nat.reduceEqDiff, if_true, if_false]) | with_reducible refine zb_o1 ?_ | with_reducible refine zb_o2 ?_ | with_reducible refine zb_o3 ?_ | with_reducible refine zb_o4 ?_ | with_reducible refine zb_tr ?_ | exact trivial | with_reducible refine zb_T ?_ | with_reducible refine zb_sp ?_ ?_)
  · rw [if_pos (by omega)] at hlf
    refine sM_addsLeaf t T.2 _ _ _ _ _ hls hl _ (fun u f1 f2 => hlf (Or.inl (by omega)) u f1 (leaf _ u f1 f2))
  · -- a knot
    have hno : ¬ (fa.2.1 = 1 ∨ 1 < fa.1) := by omega
    have ht2 : 2 ≤ fa.2.1 := by omega
    have ht8 : fa.2.1 ≤ 8 := by omega
    obtain ⟨pa', hpa'⟩ : ∃ pa', pa' = ztop T.1.length (zky0 (tgw t) (tgi t 0) fa) := ⟨_, rfl⟩
    have gd : zGood (tgw t) (tgi t 0) pa' := by
      rw [hpa']
      exact ⟨ztop_v (zky0_red (by omega) fa), ztop_w, ztop_u⟩
    have hpaL : zpL pa' = 1 := by rw [hpa']; rfl
    have hpaA : ∀ k, zpA pa' k = T.1.length := by rw [hpa']; exact fun _ => rfl
    have hr : 0 ≤ zroot (tgi t 0) fa ∧ zroot (tgi t 0) fa < tgi t 0 := ⟨Int.emod_nonneg _ (by omega), Int.emod_lt_of_pos _ (by omega)⟩
    refine sM_rootOf t i fs fa hP hfs hi hi9 hfr _ ?_
    try simp only [zl32, zl64, i32_add, i32_sub, i32_mul, i32_neg, i64_add, i64_sub, i64_mul, i64_neg, cv_gi, cv_gw, cv_ga, cv_gl, cv_pi, cv_pw, cv_pa, cv_pl, zf_S, zf_i, zf_l, mz1, mz2, mz3, mz4]
    refine sM_newKnot t T.1.length (-1) fa.2.1 1 hT.2.2.2.1 hk40 (Or.inl ⟨rfl, rfl⟩) _ (fun u1 f1 a1 a2 a3 a4 a5 => ?_)
    rw [i32_64 (by omega) (by omega)]
    have w1 : tgw u1 = tgw t := f1.1.symm
    refine sM_number u1 _ (f1.PR (by decide) (by decide) hP) (by omega) (by omega) _ ?_
    rw [w1]
    try simp only [zl32, zl64, i32_add, i32_sub, i32_mul, i32_neg, i64_add, i64_sub, i64_mul, i64_neg, cv_gi, cv_gw, cv_ga, cv_gl, cv_pi, cv_pw, cv_pa, cv_pl, zf_S, zf_i, zf_l, mz1, mz2, mz3, mz4, zr_ii, zr_iw, zr_ia, zr_il, zr_wi, zr_ww, zr_wa, zr_wl, zr_ai, zr_aw, zr_aa, zr_al, zr_li, zr_lw, zr_la, zr_ll, zw_ii, zw_ww, zw_aa, zw_ll, reduceIte, Nat.reduceEqDiff, if_true, if_false]
    rw [show (9 : Int) * (T.1.length : Int) + 1 = 9 * (T.1.length : Int) + ((1 : Nat) : Int) by omega]
    try simp (disch := omega) only [zi9, zi7, zi40, zi360, zikj, zijd, zi9o, zi7o, zip1, zip, zim1, i32_natN, ziL, zi_0, zi_1]
    repeat' (first | (exfalso; omega) | (with_reducible refine zb_in ?_ ?_ ?_ ?_; omega; omega; omega) | (with_reducible refine zb_le ?_ ?_ ?_ ?_ (fun _ => ?_) (fun _ => ?_); omega; omega; omega; omega) | (with_reducible refine zb_lt ?_ ?_ ?_ ?_ (fun _ => ?_) (fun _ => ?_); omega; omega; omega; omega) | (with_reducible refine zb_eq ?_ ?_ ?_ ?_ (fun _ => ?_) (fun _ => ?_); omega; omega; omega; omega) | (with_reducible refine zb_leL ?_ ?_ ?_ ?_ (fun _ => ?_) (fun _ => ?_); omega; omega; omega; omega) | (with_reducible refine zb_ltL ?_ ?_ ?_ ?_ (fun _ => ?_) (fun _ => ?_); omega; omega; omega; omega) | (with_reducible refine zb_eqL ?_ ?_ ?_ ?_ (fun _ => ?_) (fun _ => ?_); omega; omega; omega; omega) | (with_reducible refine zb_nz ?_ ?_ ?_ ?_; omega; omega; omega) | (with_reducible refine zb_nzL ?_ ?_ ?_ ?_; omega; omega; omega) | with_reducible refine zb_ite ?_ | with_reducible refine zb_iteL ?_ | ((with_reducible intro y hy); subst hy; try simp only [zl32, zl64, i32_add, i32_sub, i32_mul, i32_neg, i64_add, i64_sub, i64_mul, i64_neg, cv_gi, cv_gw, cv_ga, cv_gl, cv_pi, cv_pw, cv_pa, cv_pl, zf_S, zf_i, zf_l, mz1, mz2, mz3, mz4, zr_ii, zr_iw, zr_ia, zr_il, zr_wi, zr_ww, zr_wa, zr_wl, zr_ai, zr_aw, zr_aa, zr_al, zr_li, zr_lw, zr_la, zr_ll, zw_ii, zw_ww, zw_aa, zw_ll, reduceIte, Nat.reduceEqDiff, if_true, if_false]) | with_reducible refine zb_o1 ?_ | with_reducible refine zb_o2 ?_ | with_reducible refine zb_o3 ?_ | with_reducible refine zb_o4 ?_ | with_reducible refine zb_tr ?_ | exact trivial | with_reducible refine zb_T ?_ | with_reducible refine zb_sp ?_ ?_)
    obtain ⟨u4, hu4⟩ : ∃ u4, u4 = tsl u1 9 (zup (zup (tgl u1 9) (9 * T.1.length) (-zroot (tgi t 0) fa % tgw t)) (9 * T.1.length + 1) 1) := ⟨_, rfl⟩
    rw [← hu4]
    have f4 : zfr [21] [24, 25, 26] [9] t u4 := by
      rw [hu4]
      exact zfr_sl f1 (by decide)
    have s9 : tgl u4 9 = zup (zup (tgl u1 9) (9 * T.1.length) (-zroot (tgi t 0) fa % tgw t)) (9 * T.1.length + 1) 1 := by rw [hu4, zr_ll, if_pos rfl]
    have s24 : tga u4 24 = zup (tga t 24) T.1.length 1 := by rw [hu4]; exact a2
    have s25 : tga u4 25 = zup (tga t 25) T.1.length fa.2.1 := by rw [hu4]; exact a3
    have s26 : tga u4 26 = zup (tga t 26) T.1.length (-1) := by rw [hu4]; exact a4
    have w4 : tgw u4 = tgw t := f4.1.symm
    have p4 := f4.i 0 (by decide)
    have l4 : tgl u4 19 = f := by rw [f4.l 19 (by decide)]; exact hT.2.2.1
    have ho4 : zOld T.1.length (zso (tgw t) (tgi t 0) f T.1) t u4 := by
      refine ⟨fun k hk q hq => ?_, fun q _ => by rw [f4.a 31 (by decide)], fun q _ => by rw [f4.a 35 (by decide)], fun q hq => by rw [s9, zup_ne _ _ (by omega), zup_ne _ _ (by omega), a5, zwr_ne (Or.inl hq)], ⟨fun k k1 k2 q _ => by rw [f4.a k (by simp; omega)], fun q _ => by rw [f4.a 42 (by decide)], fun q _ => by rw [f4.a 43 (by decide)]⟩⟩
      rcases hk with rfl | rfl | rfl | rfl | rfl | rfl | rfl | rfl | rfl | rfl
      · rw [s24, zup_ne _ _ (by omega)]
      · rw [s25, zup_ne _ _ (by omega)]
      · rw [s26, zup_ne _ _ (by omega)]
      · rw [f4.a 27 (by decide)]
      · rw [f4.a 28 (by decide)]
      · rw [f4.a 29 (by decide)]
      · rw [f4.a 30 (by decide)]
      · rw [f4.a 32 (by decide)]
      · rw [f4.a 33 (by decide)]
      · rw [f4.a 34 (by decide)]
    have k4 : zKy u4 pa' := by
      intro k a b
      rw [hpaA]
      refine ⟨hk40, fun j hj => ?_⟩
      rw [s9, hpa']
      show _ = zky0 (tgw t) (tgi t 0) fa j
      unfold zky0
      by_cases c : j = 0
      · rw [if_pos c, c, zup_ne _ _ (by omega)]; exact zup_at _ _ _
      · rw [if_neg c]
        by_cases c2 : j = 1
        · rw [if_pos c2, c2, zup_at]
        · rw [if_neg c2, zup_ne _ _ (by omega), zup_ne _ _ (by omega), a5]
          exact zwr_at hj
    have wy4 : zWy u4 pa' := by
      refine ⟨fun k a b => ?_, fun k a b => by omega⟩
      have hk1 : k = 1 := by omega
      rw [hpaA, s24, zup_at, hk1]
      exact ⟨rfl, fun q => by omega⟩
    have md4 : zMd u4 pa' := fun k a b => by omega
    have hhl : (zhull (zpts (tgw t) (tgi t 0) pa' f fa.2.1) fa.2.1).length ≤ 8 := by
      have := (zhull_ok (pts := zpts (tgw t) (tgi t 0) pa' f fa.2.1) (m := fa.2.1)).2
      omega
    rw [show i32 (T.1.length : Int) = i32 (zpA pa' (zpL pa') : Nat) by rw [hpaA]]
    refine sM_goesInto u4 pa' fa.2.1 (zso (tgw t) (tgi t 0) f T.1) 0 T.2 ht8 (f4.PR (by decide) (by decide) hP) k4 md4 wy4 (by rw [w4]; exact gd.1) (by rw [p4]; exact gd.2.1) (by rw [w4, l4]; exact hT.2.1) (by rw [hpaA, s25]; exact zup_at _ _ _) (by rw [f4.i 22 (by decide)]; exact hT.2.2.2.2.1) (by rw [w4, p4, l4]; omega) (hls.moved f4 (by decide) (by decide) (by decide) (by decide) (by decide) (by decide)) hl (by rw [f4.i 61 (by decide)]; exact h61) (by omega) _ (fun v f5 v22 vK vS vk vL v61 v58 v59 v60 => ?_)
    rw [w4, p4, l4] at v22 vK vL
    have ftv : zfr [21, 22, 23, 49, 56, 61] [24, 25, 26, 27, 28, 29, 30, 31, 36, 37, 38, 39, 40, 41, 42, 43, 44, 45, 46, 47, 48, 50, 51, 52, 53, 54, 55, 58, 59, 60] [8, 9] t v := (f4.mono (by decide) (by decide) (by decide)).trans (f5.mono (by decide) (by decide) (by decide))
    have hov : zOld T.1.length (zso (tgw t) (tgi t 0) f T.1) u4 v := by
      refine ⟨fun k hk q hq => ?_, fun q hq => vk.2 q (Or.inl (by rw [hpaA]; exact hq)), fun q _ => by rw [f5.a 35 (by decide)], fun q _ => by rw [f5.l 9 (by decide)], vS⟩
      rcases hk with rfl | rfl | rfl | rfl | rfl | rfl | rfl | rfl | rfl | rfl
      · rw [f5.a 24 (by decide)]
      · rw [f5.a 25 (by decide)]
      · rw [f5.a 26 (by decide)]
      · exact vk.1 27 (by omega) q (by rw [hpaA]; omega)
      · exact vk.1 28 (by omega) q (by rw [hpaA]; omega)
      · exact vk.1 29 (by omega) q (by rw [hpaA]; omega)
      · exact vk.1 30 (by omega) q (by rw [hpaA]; omega)
      · rw [f5.a 32 (by decide)]
      · rw [f5.a 33 (by decide)]
      · rw [f5.a 34 (by decide)]
    refine hkn hno ht2 ht8 v (zGr.of ftv (by decide) (by decide) (by decide)) ?_ v61 (by rw [v58, f4.a 58 (by decide), hpaA]) (by rw [v59, f4.a 59 (by decide)]) (by rw [v60, f4.a 60 (by decide)])
    rw [← hpa']
    refine hT.push (ho4.trans hov) (ftv.PR (by decide) (by decide) hP) ftv.1.symm (ftv.i 0 (by decide)) (ftv.l 19 (by decide)) (by rw [f5.i 21 (by decide), hu4]; exact a1) v22 vL ?_
    refine ⟨hpaA _, ⟨ht2, ht8⟩, fun k a b => by show zpA pa' k ≤ _; rw [hpaA]; exact Nat.le_refl _, k4.moved f5 (by decide), wy4.moved f5 (by decide) (by decide) (by decide) (by decide), md4.moved f5 (by decide) (by decide), vK, fun q => ?_, gd⟩
    rw [f5.a 26 (by decide), s26]
    exact zup_at _ _ _
  · rw [if_neg (by omega), if_neg (by omega)] at hlf
    refine sM_addsLeaf t T.2 _ _ _ _ _ hls hl _ (fun u f1 f2 => hlf (Or.inr (by omega)) u f1 (leaf _ u f1 f2))
theorem ztf_bd {M p : Int} (hp : zpr p) (hM : 2 ≤ M) (hM2 : M < 536870912) {f : Nat → Int} (hf : zred M 9 f) (fa : zF) (hfa : zfok fa) (hb : fa.1 * fa.2.1 ≤ 8) (T : zT) : zBd M p f (fa.1 * fa.2.1) 6 T (ztf M p f T fa) := by
  have hft : 1 ≤ fa.1 * fa.2.1 := Nat.mul_pos hfa.1 hfa.2
  have leaf : ∀ l : zL, zBd M p f (fa.1 * fa.2.1) 6 T (T.1, T.2 ++ [l]) := fun l => ⟨by show 2 * T.1.length ≤ _; omega, by show zso M p f T.1 ≤ _; omega, by show (T.2 ++ [l]).length ≤ _; rw [List.length_append, List.length_singleton]; omega⟩
  unfold ztf
  by_cases c1 : fa.2.1 = 1
  · rw [if_pos c1]; exact leaf _
  · rw [if_neg c1]
    by_cases c2 : fa.1 = 1
    · rw [if_pos c2]
      rw [c2, Nat.one_mul] at hb ⊢
      have hD : zpD (ztop T.1.length (zky0 M p fa)) 1 = 1 := zD_1 _
      have e := zGk_bd hp (by omega) hM2 hf 6 1 rfl (ztop T.1.length (zky0 M p fa)) fa.2.1 T ⟨ztop_v (zky0_red hM fa), ztop_w, ztop_u⟩ rfl (by have := hfa.2; omega) hb (by rw [show zpL (ztop T.1.length (zky0 M p fa)) = 1 from rfl, hD]; omega)
      rw [show zpL (ztop T.1.length (zky0 M p fa)) = 1 from rfl, hD, Nat.mul_one] at e
      exact e
    · rw [if_neg c2]; exact leaf _
theorem ztf_kn {M p : Int} {f : Nat → Int} {T : zT} {fa : zF} (h : ¬ (fa.2.1 = 1 ∨ 1 < fa.1)) (h1 : 1 ≤ fa.1) : ztf M p f T fa = zGk M p f 6 (ztop T.1.length (zky0 M p fa)) fa.2.1 T := by
  unfold ztf
  rw [if_neg (by omega), if_pos (by omega)]
  rfl
/-- one step at the root -/
theorem sM_step_top (t : tS) (f : Nat → Int) (T : zT) (i : Nat) (hT : zTR t f T) (hst : zStk t 0 0 0 i) (hdg : 0 ≤ degN (fun k => f k % tgi t 0) 9) (hS : zso (tgw t) (tgi t 0) f T.1 ≤ 48) (hl : T.2.length ≤ 8) (hk : T.1.length ≤ 24) (hi : i ≤ (zFc (tgi t 0) (fun k => f k % tgi t 0)).length) (Q : mS → Prop)
    (he : i = (zFc (tgi t 0) (fun k => f k % tgi t 0)).length → ∀ w, zGr t w → zTR w f T → tgi w 61 = -1 → Q (cv w))
    (hlf : ∀ fa, (zFc (tgi t 0) (fun k => f k % tgi t 0))[i]? = some fa → (fa.2.1 = 1 ∨ 1 < fa.1) → ∀ w, zGr t w → zTR w f (ztf (tgw t) (tgi t 0) f T fa) → zStk w 0 0 0 (i + 1) → Q (cv w))
    (hkn : ∀ fa, (zFc (tgi t 0) (fun k => f k % tgi t 0))[i]? = some fa → ¬ (fa.2.1 = 1 ∨ 1 < fa.1) → 2 ≤ fa.2.1 → fa.2.1 ≤ 8 → ∀ w, zGr t w → zTR w f (zst0 (tgw t) (tgi t 0) f (ztop T.1.length (zky0 (tgw t) (tgi t 0) fa)) fa.2.1 T) → zStk w 1 T.1.length 0 0 → (tga w 58 0 = 0 ∧ tga w 59 0 = 0 ∧ tga w 60 0 = (i : Int) + 1) → Q (cv w)) : wM_steps (cv t) Q := by
  have hP := hT.1
  have hwd := hP.w
  have hp := hP.p
  have hst' := hst
  obtain ⟨s1, s2, s3, s4⟩ := hst
  have hre : zred (tgi t 0) 9 (fun k => f k % tgi t 0) := fun q _ => ⟨Int.emod_nonneg _ (by omega), Int.emod_lt_of_pos _ (by omega)⟩
  have hdl := degN_lt (fun k => f k % tgi t 0) 9
  have hsum := zFc_sum (tgi t 0) (fun k => f k % tgi t 0)
  have hln := zsum_len _ (zFc_fok (tgi t 0) (fun k => f k % tgi t 0))
  unfold wM_steps wM_steps_j46
  try simp only [zl32, zl64, i32_add, i32_sub, i32_mul, i32_neg, i64_add, i64_sub, i64_mul, i64_neg, cv_gi, cv_gw, cv_ga, cv_gl, cv_pi, cv_pw, cv_pa, cv_pl, zf_S, zf_i, zf_l, mz1, mz2, mz3, mz4, zr_ii, zr_iw, zr_ia, zr_il, zr_wi, zr_ww, zr_wa, zr_wl, zr_ai, zr_aw, zr_aa, zr_al, zr_li, zr_lw, zr_la, zr_ll, zw_ii, zw_ww, zw_aa, zw_ll, reduceIte, Nat.reduceEqDiff, if_true, if_false]
  rw [s1]
  try simp (disch := omega) only [zi9, zi7, zi40, zi360, zikj, zijd, zi9o, zi7o, zip1, zip, zim1, i32_natN, ziL, zi_0, zi_1]
  rw [s2]
  repeat' (first | (exfalso; omega) | (with_reducible refine zb_in ?_ ?_ ?_ ?_; omega; omega; omega) | (with_reducible refine zb_le ?_ ?_ ?_ ?_ (fun _ => ?_) (fun _ => ?_); omega; omega; omega; omega) | (with_reducible refine zb_lt ?_ ?_ ?_ ?_ (fun _ => ?_) (fun _ => ?_); omega; omega; omega; omega) | (with_reducible refine zb_eq ?_ ?_ ?_ ?_ (fun _ => ?_) (fun _ => ?_); omega; omega; omega; omega) | (with_reducible refine zb_leL ?_ ?_ ?_ ?_ (fun _ => ?_) (fun _ => ?_); omega; omega; omega; omega) | (with_reducible refine zb_ltL ?_ ?_ ?_ ?_ (fun _ => ?_) (fun _ => ?_); omega; omega; omega; omega) | (with_reducible refine zb_eqL ?_ ?_ ?_ ?_ (fun _ => ?_) (fun _ => ?_); omega; omega; omega; omega) | (with_reducible refine zb_nz ?_ ?_ ?_ ?_; omega; omega; omega) | (with_reducible refine zb_nzL ?_ ?_ ?_ ?_; omega; omega; omega) | with_reducible refine zb_ite ?_ | with_reducible refine zb_iteL ?_ | ((with_reducible intro y hy); subst hy; try simp only [zl32, zl64, i32_add, i32_sub, i32_mul, i32_neg, i64_add, i64_sub, i64_mul, i64_neg, cv_gi, cv_gw, cv_ga, cv_gl, cv_pi, cv_pw, cv_pa, cv_pl, zf_S, zf_i, zf_l, mz1, mz2, mz3, mz4, zr_ii, zr_iw, zr_ia, zr_il, zr_wi, zr_ww, zr_wa, zr_wl, zr_ai, zr_aw, zr_aa, zr_al, zr_li, zr_lw, zr_la, zr_ll, zw_ii, zw_ww, zw_aa, zw_ll, reduceIte, Nat.reduceEqDiff, if_true, if_false]) | with_reducible refine zb_o1 ?_ | with_reducible refine zb_o2 ?_ | with_reducible refine zb_o3 ?_ | with_reducible refine zb_o4 ?_ | with_reducible refine zb_tr ?_ | exact trivial | with_reducible refine zb_T ?_ | with_reducible refine zb_sp ?_ ?_)
  refine sM_steps_l76 t 0 0 0 0 i _ hP hst' (by omega) (by omega) (by omega) (fun q => by omega) (fun _ => ⟨by rw [hT.2.2.1]; exact hT.2.1, fun k hk => by rw [hT.2.2.1]⟩) hre hdg (by omega) Q (fun v f1 e1 w f2 w59 w60 w61 => ?_) (fun v f1 f2 e1 w hw => ⟨fun _ => ?_, fun q => by omega⟩)
  · have ftw : zfr [11, 12, 61] [10, 13, 14, 15, 16, 17, 59, 60] [] t w := (f1.mono (by decide) (by decide) (by decide)).trans (f2.mono (by decide) (by decide) (by decide))
    rw [if_pos rfl] at w61
    exact he e1 w (zGr.of ftw (by decide) (by decide) (by decide)) (hT.moved ftw (by decide) (by decide) (by decide) (by decide) (by decide) (fun k a b => by simp; omega) (by decide) (by decide)) w61
  · have hil : i < (zFc (tgi t 0) (fun k => f k % tgi t 0)).length := by omega
    obtain ⟨fa, hfa⟩ : ∃ fa, (zFc (tgi t 0) (fun k => f k % tgi t 0))[i]? = some fa := ⟨_, List.getElem?_eq_getElem hil⟩
    have hfam := List.mem_of_getElem? hfa
    have hfr := zFc_rng hP.pr hre fa hfam
    have hfok := zFc_fok _ _ fa hfam
    have hfb : fa.1 * fa.2.1 ≤ 8 := by
      have : ∀ (l : List zF), fa ∈ l → fa.1 * fa.2.1 ≤ zsum l := by
        intro l
        induction l with
        | nil => intro q; cases q
        | cons y ys ih =>
          intro q
          show _ ≤ y.1 * y.2.1 + zsum ys
          rcases List.mem_cons.mp q with rfl | q
          · omega
          · have := ih q
            omega
      have := this _ hfam
      omega
    have ftw : zfr [11, 12] [10, 13, 14, 15, 16, 17, 60] [] t w := by
      rw [hw]
      exact zfr_sa (f1.mono (by decide) (by decide) (by decide)) (by decide)
    have tw : zTR w f T := hT.moved ftw (by decide) (by decide) (by decide) (by decide) (by decide) (fun k a b => by simp; omega) (by decide) (by decide)
    have fw : zFA w (zFc (tgi t 0) (fun k => f k % tgi t 0)) := by rw [hw]; exact f2
    have ww : tgw w = tgw t := ftw.1.symm
    have pw := ftw.i 0 (by decide)
    have gw : zGr t w := zGr.of ftw (by decide) (by decide) (by decide)
    have w60 : tga w 60 = zup (tga t 60) 0 ((i : Int) + 1) := by rw [hw, zr_aa, if_pos rfl, f1.a 60 (by decide)]
    refine sM_takesFirst w i f T _ fa tw fw hfa (by omega) hfok (by rw [pw]; exact hfr) hfb (by omega) (by omega) (by rw [ftw.i 61 (by decide)]; exact s1) (by rw [ww, pw]; omega) Q (fun hc v f4 tv => ?_) (fun hc t2 t8 v g4 tv v61 v58 v59 v60 => ?_)
    · rw [ww, pw] at tv
      refine hlf fa hfa hc v (gw.trans (zGr.of f4 (by decide) (by decide) (by decide))) tv ⟨by rw [f4.i 61 (by decide), ftw.i 61 (by decide)]; exact s1, by rw [f4.a 58 (by decide), ftw.a 58 (by decide)]; exact s2, by rw [f4.a 59 (by decide), ftw.a 59 (by decide)]; exact s3, by rw [f4.a 60 (by decide), w60, zup_at]; omega⟩
    · rw [ww, pw] at tv
      refine hkn fa hfa hc t2 t8 v (gw.trans g4) tv ⟨v61, by rw [v58, zup_at], by rw [v59, zup_at]; rfl, by rw [v60, zup_at]; rfl⟩ ⟨by rw [v58, zup_ne _ _ (by omega), ftw.a 58 (by decide)]; exact s2, by rw [v59, zup_ne _ _ (by omega), ftw.a 59 (by decide)]; exact s3, by rw [v60, zup_ne _ _ (by omega), w60, zup_at]⟩
theorem zsim_top {M p : Int} (hp : zpr p) (hM : 2 ≤ M) (hM2 : M < 536870912) {f : Nat → Int} (hf : zred M 9 f) (hdg : 0 ≤ degN (fun k => f k % p) 9) :
    ∀ (gs pre : List zF), zFc p (fun k => f k % p) = pre ++ gs → ∀ T : zT, zCap M p f (zsum gs) 6 T →
      ∃ cnt : Nat, ∀ (Q : Int32 → mS → Prop) (n0 : Nat) (t0 u : tS), zQ t0 M p f T u → zStk u 0 0 0 pre.length → (∀ v, zQ t0 M p f (gs.foldl (ztf M p f) T) v → tgi v 61 = -1 → zRun Q n0 v) → zRun Q (n0 + cnt) u := by
  have hsum := zFc_sum p (fun k => f k % p)
  have hdl := degN_lt (fun k => f k % p) 9
  have hre : zred p 9 (fun k => f k % p) := fun q _ => by
    have hp2 : 2 ≤ p := by rcases hp with h | h | h | h <;> omega
    exact ⟨Int.emod_nonneg _ (by omega), Int.emod_lt_of_pos _ (by omega)⟩
  intro gs
  induction gs with
  | nil =>
    intro pre he T hc
    refine ⟨1, fun Q n0 t0 u hq hst hend => ?_⟩
    obtain ⟨q1, q2, q3, q4⟩ := hq
    obtain ⟨c1, c2, c3⟩ := hc
    rw [List.append_nil] at he
    refine zRun_step (by rw [hst.1]; omega) (by rw [hst.1]; omega) ?_
    refine sM_step_top u f T pre.length q3 hst (by rw [q2]; exact hdg) (by rw [q1, q2]; omega) (by omega) (by omega) (by rw [q2, he]; omega) _ (fun _ w g1 w3 w4 => hend w ⟨g1.1.symm.trans q1, (g1.i 0 (by decide)).trans q2, w3, q4.trans g1⟩ w4) (fun fa hfa => ?_) (fun fa hfa => ?_)
    · rw [q2, he, List.getElem?_eq_none (Nat.le_refl _)] at hfa
      cases hfa
    · rw [q2, he, List.getElem?_eq_none (Nat.le_refl _)] at hfa
      cases hfa
  | cons fa gs ih =>
    intro pre he T hc
    have hmem : fa ∈ zFc p (fun k => f k % p) := by rw [he]; exact List.mem_append.mpr (Or.inr List.mem_cons_self)
    have hfok := zFc_fok _ _ fa hmem
    have hs1 : fa.1 * fa.2.1 + zsum gs ≤ 8 := by
      rw [he, zsum_app] at hsum
      have : zsum (fa :: gs) = fa.1 * fa.2.1 + zsum gs := rfl
      omega
    have hbd := ztf_bd hp hM hM2 hf fa hfok (by omega) T
    have hc' : zCap M p f (fa.1 * fa.2.1 + zsum gs) 6 T := hc
    obtain ⟨cnt, hcnt⟩ := ih (pre ++ [fa]) (by rw [List.append_assoc]; exact he) (ztf M p f T fa) (hc'.next hbd)
    have hget : (zFc p (fun k => f k % p))[pre.length]? = some fa := by
      rw [he, List.getElem?_append, if_neg (by omega), Nat.sub_self]
      rfl
    have hlen : (pre ++ [fa]).length = pre.length + 1 := by rw [List.length_append, List.length_singleton]
    have hpl : pre.length ≤ (zFc p (fun k => f k % p)).length := by
      rw [he, List.length_append]
      omega
    obtain ⟨c1, c2, c3⟩ := hc
    by_cases hleaf : fa.2.1 = 1 ∨ 1 < fa.1
    · refine ⟨cnt + 1, fun Q n0 t0 u hq hst hend => ?_⟩
      obtain ⟨q1, q2, q3, q4⟩ := hq
      rw [← Nat.add_assoc]
      refine zRun_step (by rw [hst.1]; omega) (by rw [hst.1]; omega) ?_
      refine sM_step_top u f T pre.length q3 hst (by rw [q2]; exact hdg) (by rw [q1, q2]; omega) (by omega) (by omega) (by rw [q2]; exact hpl) _ (fun e => ?_) (fun fb hfb _ w g1 w3 w4 => ?_) (fun fb hfb hno => ?_)
      · rw [q2, he, List.length_append, List.length_cons] at e
        omega
      · rw [q2, hget] at hfb
        cases hfb
        rw [q1, q2] at w3
        exact hcnt Q n0 t0 w ⟨g1.1.symm.trans q1, (g1.i 0 (by decide)).trans q2, w3, q4.trans g1⟩ (by rw [hlen]; exact w4) hend
      · rw [q2, hget] at hfb
        cases hfb
        exact absurd hleaf hno
    · have ht2 : 2 ≤ fa.2.1 := by have := hfok.2; omega
      have hf1 : fa.1 = 1 := by have := hfok.1; omega
      have hz := ztf_kn (M := M) (p := p) (f := f) (T := T) hleaf hfok.1
      have hD : zpD (ztop T.1.length (zky0 M p fa)) 1 = 1 := zD_1 _
      have ht8 : fa.2.1 ≤ 8 := by rw [hf1, Nat.one_mul] at hs1; omega
      obtain ⟨cnt2, hcnt2⟩ := zSim_all hp (by omega) hM2 hf 6 (ztop T.1.length (zky0 M p fa)) fa.2.1 T ⟨ztop_v (zky0_red hM fa), ztop_w, ztop_u⟩ rfl ht2 ht8 (by rw [show zpL (ztop T.1.length (zky0 M p fa)) = 1 from rfl, hD]; omega) rfl (by
        rw [show zpL (ztop T.1.length (zky0 M p fa)) = 1 from rfl, hD]
        refine hc'.mono ?_
        rw [hf1]
        omega)
      refine ⟨cnt + cnt2 + 1, fun Q n0 t0 u hq hst hend => ?_⟩
      obtain ⟨q1, q2, q3, q4⟩ := hq
      rw [← Nat.add_assoc]
      refine zRun_step (by rw [hst.1]; omega) (by rw [hst.1]; omega) ?_
      refine sM_step_top u f T pre.length q3 hst (by rw [q2]; exact hdg) (by rw [q1, q2]; omega) (by omega) (by omega) (by rw [q2]; exact hpl) _ (fun e => ?_) (fun fb hfb hlf => ?_) (fun fb hfb _ t2 t8 w g1 w3 w4 w5 => ?_)
      · rw [q2, he, List.length_append, List.length_cons] at e
        omega
      · rw [q2, hget] at hfb
        cases hfb
        exact absurd hlf hleaf
      · rw [q2, hget] at hfb
        cases hfb
        rw [q1, q2] at w3
        have key : zRun Q (n0 + cnt + cnt2) w := by
          refine hcnt2 Q (n0 + cnt) t0 w ⟨g1.1.symm.trans q1, (g1.i 0 (by decide)).trans q2, w3, q4.trans g1⟩ w4 (fun v v1 v2 v3 => ?_)
          rw [← hz] at v1
          have l := v3 0 (by show 0 < 1; omega)
          exact hcnt Q n0 t0 v v1 ⟨by rw [v2]; rfl, by rw [l.1]; exact w5.1, by rw [l.2.1]; exact w5.2.1, by rw [l.2.2, w5.2.2, hlen]; omega⟩ hend
        rw [Nat.add_assoc] at key
        exact key
