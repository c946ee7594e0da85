/-! PURE 8: the model's factors, all of them, and its answers by them -/
set_option maxRecDepth 100000
theorem zFA.moved {t u : tS} {fs : List zF} (h : zFA t fs) (h12 : tgi u 12 = tgi t 12) (h13 : tga u 13 = tga t 13) (h14 : tga u 14 = tga t 14) (h15 : tga u 15 = tga t 15) : zFA u fs := by
  unfold zFA
  rw [h12, h13, h14, h15]
  exact h
theorem sM_cd (t : tS) (d N : Nat) (hd : 1 ≤ d) (hd9 : d < 9) (hN : N < 2147483647) (hP : zPR t) (rec62 : mS → Int32 → Int32 → Prop) (Q : mS → Prop) : ∀ (n code L : Nat) (f : Nat → Int) (fs : List zF) (u : tS), code + n = N → zfr [11, 12] [10, 13, 14, 15, 16, 17] [] t u → tga u 10 = f → tgi u 11 = (L : Int) → zFA u fs → L < 9 → zred (tgi t 0) 9 f → fs.length + L ≤ 8 →
    (∀ v, zfr [11, 12] [10, 13, 14, 15, 16, 17] [] t v → tga v 10 = (zCd (tgi t 0) d n code L f fs).2.1 → tgi v 11 = ((zCd (tgi t 0) d n code L f fs).1 : Int) → zFA v (zCd (tgi t 0) d n code L f fs).2.2 → rec62 (cv v) (i32 N) (i32 ((d : Int) + 1))) →
    wM_takesApart_l82 rec62 Q (i32 N) (i32 d) (n + 1) (cv u) (i32 code) := by
  intro n
  induction n with
  | zero =>
    intro code L f fs u hc hu hf hL hfs hL9 hz hl h
    rw [wM_takesApart_l82]
    try simp only [zl32, zl64, i32_add, i32_sub, i32_mul, i32_neg, i64_add, i64_sub, i64_mul, i64_neg, cv_gi, cv_gw, cv_ga, cv_gl, cv_pi, cv_pw, cv_pa, cv_pl, zf_S, zf_i, zf_l, mz1, mz2, mz3, mz4, zr_ii, zr_iw, zr_ia, zr_il, zr_wi, zr_ww, zr_wa, zr_wl, zr_ai, zr_aw, zr_aa, zr_al, zr_li, zr_lw, zr_la, zr_ll, zw_ii, zw_ww, zw_aa, zw_ll, reduceIte, Nat.reduceEqDiff, if_true, if_false]
    repeat' (first | (exfalso; omega) | (with_reducible refine zb_in ?_ ?_ ?_ ?_; omega; omega; omega) | (with_reducible refine zb_le ?_ ?_ ?_ ?_ (fun _ => ?_) (fun _ => ?_); omega; omega; omega; omega) | (with_reducible refine zb_lt ?_ ?_ ?_ ?_ (fun _ => ?_) (fun _ => ?_); omega; omega; omega; omega) | (with_reducible refine zb_eq ?_ ?_ ?_ ?_ (fun _ => ?_) (fun _ => ?_); omega; omega; omega; omega) | (with_reducible refine zb_leL ?_ ?_ ?_ ?_ (fun _ => ?_) (fun _ => ?_); omega; omega; omega; omega) | (with_reducible refine zb_ltL ?_ ?_ ?_ ?_ (fun _ => ?_) (fun _ => ?_); omega; omega; omega; omega) | (with_reducible refine zb_eqL ?_ ?_ ?_ ?_ (fun _ => ?_) (fun _ => ?_); omega; omega; omega; omega) | (with_reducible refine zb_nz ?_ ?_ ?_ ?_; omega; omega; omega) | (with_reducible refine zb_nzL ?_ ?_ ?_ ?_; omega; omega; omega) | with_reducible refine zb_ite ?_ | with_reducible refine zb_iteL ?_ | ((with_reducible intro y hy); subst hy; try simp only [zl32, zl64, i32_add, i32_sub, i32_mul, i32_neg, i64_add, i64_sub, i64_mul, i64_neg, cv_gi, cv_gw, cv_ga, cv_gl, cv_pi, cv_pw, cv_pa, cv_pl, zf_S, zf_i, zf_l, mz1, mz2, mz3, mz4, zr_ii, zr_iw, zr_ia, zr_il, zr_wi, zr_ww, zr_wa, zr_wl, zr_ai, zr_aw, zr_aa, zr_al, zr_li, zr_lw, zr_la, zr_ll, zw_ii, zw_ww, zw_aa, zw_ll, reduceIte, Nat.reduceEqDiff, if_true, if_false]) | with_reducible refine zb_o1 ?_ | with_reducible refine zb_o2 ?_ | with_reducible refine zb_o3 ?_ | with_reducible refine zb_o4 ?_ | with_reducible refine zb_tr ?_ | exact trivial | with_reducible refine zb_T ?_ | with_reducible refine zb_sp ?_ ?_)
    exact h u hu hf hL hfs
  | succ n ih =>
    intro code L f fs u hc hu hf hL hfs hL9 hz hl h
    have hp := hP.p
    have hPu := hu.PR (by decide) (by decide) hP
    have e0 := hu.i 0 (by decide)
    rw [wM_takesApart_l82]
    unfold zCd at h
    try simp only [zl32, zl64, i32_add, i32_sub, i32_mul, i32_neg, i64_add, i64_sub, i64_mul, i64_neg, cv_gi, cv_gw, cv_ga, cv_gl, cv_pi, cv_pw, cv_pa, cv_pl, zf_S, zf_i, zf_l, mz1, mz2, mz3, mz4, zr_ii, zr_iw, zr_ia, zr_il, zr_wi, zr_ww, zr_wa, zr_wl, zr_ai, zr_aw, zr_aa, zr_al, zr_li, zr_lw, zr_la, zr_ll, zw_ii, zw_ww, zw_aa, zw_ll, reduceIte, Nat.reduceEqDiff, if_true, if_false]
    rw [hL]
    repeat' (first | (exfalso; omega) | (with_reducible refine zb_in ?_ ?_ ?_ ?_; omega; omega; omega) | (with_reducible refine zb_le ?_ ?_ ?_ ?_ (fun _ => ?_) (fun _ => ?_); omega; omega; omega; omega) | (with_reducible refine zb_lt ?_ ?_ ?_ ?_ (fun _ => ?_) (fun _ => ?_); omega; omega; omega; omega) | (with_reducible refine zb_eq ?_ ?_ ?_ ?_ (fun _ => ?_) (fun _ => ?_); omega; omega; omega; omega) | (with_reducible refine zb_leL ?_ ?_ ?_ ?_ (fun _ => ?_) (fun _ => ?_); omega; omega; omega; omega) | (with_reducible refine zb_ltL ?_ ?_ ?_ ?_ (fun _ => ?_) (fun _ => ?_); omega; omega; omega; omega) | (with_reducible refine zb_eqL ?_ ?_ ?_ ?_ (fun _ => ?_) (fun _ => ?_); omega; omega; omega; omega) | (with_reducible refine zb_nz ?_ ?_ ?_ ?_; omega; omega; omega) | (with_reducible refine zb_nzL ?_ ?_ ?_ ?_; omega; omega; omega) | with_reducible refine zb_ite ?_ | with_reducible refine zb_iteL ?_ | ((with_reducible intro y hy); subst hy; try simp only [zl32, zl64, i32_add, i32_sub, i32_mul, i32_neg, i64_add, i64_sub, i64_mul, i64_neg, cv_gi, cv_gw, cv_ga, cv_gl, cv_pi, cv_pw, cv_pa, cv_pl, zf_S, zf_i, zf_l, mz1, mz2, mz3, mz4, zr_ii, zr_iw, zr_ia, zr_il, zr_wi, zr_ww, zr_wa, zr_wl, zr_ai, zr_aw, zr_aa, zr_al, zr_li, zr_lw, zr_la, zr_ll, zw_ii, zw_ww, zw_aa, zw_ll, reduceIte, Nat.reduceEqDiff, if_true, if_false]) | with_reducible refine zb_o1 ?_ | with_reducible refine zb_o2 ?_ | with_reducible refine zb_o3 ?_ | with_reducible refine zb_o4 ?_ | with_reducible refine zb_tr ?_ | exact trivial | with_reducible refine zb_T ?_ | with_reducible refine zb_sp ?_ ?_)
    · rw [if_pos (by omega)] at h
      exact h u hu hf hL hfs
    · rw [if_neg (by omega)] at h
      refine sM_laysTrial u code d hPu (by omega) hd9 _ ?_
      rw [e0]
      obtain ⟨g, hg⟩ : ∃ g, g = zov 9 (ztrial (tgi t 0) code d) (tga u 16) := ⟨_, rfl⟩
      rw [← hg]
      have hgq : ∀ q, q < 9 → g q = ztrial (tgi t 0) code d q := by
        intro q hq
        rw [hg]
        unfold zov
        rw [if_pos hq]
      have hgr : zred (tgi t 0) 9 g := by
        intro q hq
        rw [hgq q hq]
        exact zred_ztrial hp.1 q hq
      have hgk : ∀ (n L : Nat) (f : Nat → Int) (tm : Nat), zTk (tgi t 0) g d n L f tm = zTk (tgi t 0) (ztrial (tgi t 0) code d) d n L f tm := by
        intro n
        have e1 : ∀ (L : Nat) (f : Nat → Int), zdvw (tgi t 0) g d 0 (L + 1) f = zdvw (tgi t 0) (ztrial (tgi t 0) code d) d 0 (L + 1) f := fun L f => zdvw_g (fun q hq => hgq q (by omega)) _ _
        induction n with
        | zero => intro L f tm; rfl
        | succ n ih =>
          intro L f tm
          unfold zTk
          have e2 : zdiv (tgi t 0) g d L f = zdiv (tgi t 0) (ztrial (tgi t 0) code d) d L f := by
            unfold zdiv
            rw [e1]
          have e3 : znl (tgi t 0) g d L f = znl (tgi t 0) (ztrial (tgi t 0) code d) d L f := by
            unfold znl
            rw [e1]
          rw [e2, e3, ih]
      have hT := zTk_ok (p := tgi t 0) (by omega) hd (g := ztrial (tgi t 0) code d) 9 L f 0 hL9 hz
      refine ⟨10, ?_⟩
      refine sM_tk (tsa u 16 g) d code hd hPu (by rw [zr_ia, zr_aa, if_pos rfl, e0]; exact hgr) _ rec62 Q (i32 N) 9 L f 0 (tsa u 16 g) (zfr.refl _) (by rw [zr_aa, if_neg (by decide)]; exact hf) (by rw [zr_ia]; exact hL) hL9 hd9 (by rw [zr_ia, e0]; exact hz) (by omega) (fun v hv hv1 hv2 => ?_)
      rw [zr_ia, zr_aa, if_pos rfl, e0, hgk] at hv1 hv2 ⊢
      have hv16 : tga v 16 = g := by
        rw [hv.a 16 (by decide), zr_aa, if_pos rfl]
      have huv : zfr [11, 12] [10, 13, 14, 15, 16, 17] [] t v :=
        (hu.trans (zfr_sa (zfr.refl u) (by decide))).trans (hv.mono (by decide) (by decide) (by decide))
      have hfv : zFA v fs := hfs.moved (hv.i 12 (by decide)) (by rw [hv.a 13 (by decide), zr_aa, if_neg (by decide)]) (by rw [hv.a 14 (by decide), zr_aa, if_neg (by decide)]) (by rw [hv.a 15 (by decide), zr_aa, if_neg (by decide)])
      revert h hT hv1 hv2
      generalize zTk (tgi t 0) (ztrial (tgi t 0) code d) d 9 L f 0 = r
      intro h hT hv1 hv2
      unfold wM_takesApart_j128
      try simp only [zl32, zl64, i32_add, i32_sub, i32_mul, i32_neg, i64_add, i64_sub, i64_mul, i64_neg, cv_gi, cv_gw, cv_ga, cv_gl, cv_pi, cv_pw, cv_pa, cv_pl, zf_S, zf_i, zf_l, mz1, mz2, mz3, mz4]
      repeat' (first | (exfalso; omega) | (with_reducible refine zb_in ?_ ?_ ?_ ?_; omega; omega; omega) | (with_reducible refine zb_le ?_ ?_ ?_ ?_ (fun _ => ?_) (fun _ => ?_); omega; omega; omega; omega) | (with_reducible refine zb_lt ?_ ?_ ?_ ?_ (fun _ => ?_) (fun _ => ?_); omega; omega; omega; omega) | (with_reducible refine zb_eq ?_ ?_ ?_ ?_ (fun _ => ?_) (fun _ => ?_); omega; omega; omega; omega) | (with_reducible refine zb_leL ?_ ?_ ?_ ?_ (fun _ => ?_) (fun _ => ?_); omega; omega; omega; omega) | (with_reducible refine zb_ltL ?_ ?_ ?_ ?_ (fun _ => ?_) (fun _ => ?_); omega; omega; omega; omega) | (with_reducible refine zb_eqL ?_ ?_ ?_ ?_ (fun _ => ?_) (fun _ => ?_); omega; omega; omega; omega) | (with_reducible refine zb_nz ?_ ?_ ?_ ?_; omega; omega; omega) | (with_reducible refine zb_nzL ?_ ?_ ?_ ?_; omega; omega; omega) | with_reducible refine zb_ite ?_ | with_reducible refine zb_iteL ?_ | ((with_reducible intro y hy); subst hy; try simp only [zl32, zl64, i32_add, i32_sub, i32_mul, i32_neg, i64_add, i64_sub, i64_mul, i64_neg, cv_gi, cv_gw, cv_ga, cv_gl, cv_pi, cv_pw, cv_pa, cv_pl, zf_S, zf_i, zf_l, mz1, mz2, mz3, mz4, zr_ii, zr_iw, zr_ia, zr_il, zr_wi, zr_ww, zr_wa, zr_wl, zr_ai, zr_aw, zr_aa, zr_al, zr_li, zr_lw, zr_la, zr_ll, zw_ii, zw_ww, zw_aa, zw_ll, reduceIte, Nat.reduceEqDiff, if_true, if_false]) | with_reducible refine zb_o1 ?_ | with_reducible refine zb_o2 ?_ | with_reducible refine zb_o3 ?_ | with_reducible refine zb_o4 ?_ | with_reducible refine zb_tr ?_ | exact trivial | with_reducible refine zb_T ?_ | with_reducible refine zb_sp ?_ ?_)
      · rw [if_neg (by omega)] at h
        exact ih (code + 1) r.1 r.2.1 fs v (by omega) huv hv1 hv2 hfv (by omega) hT.2.2 (by omega) h
      · rw [if_pos (by omega)] at h
        refine sM_addsFactor v d r.2.2 fs hfv (by omega) (fun k hk => by rw [hv16]; have := hgr k hk; omega) _ (fun w hw hfw => ?_)
        repeat' (first | (exfalso; omega) | (with_reducible refine zb_in ?_ ?_ ?_ ?_; omega; omega; omega) | (with_reducible refine zb_le ?_ ?_ ?_ ?_ (fun _ => ?_) (fun _ => ?_); omega; omega; omega; omega) | (with_reducible refine zb_lt ?_ ?_ ?_ ?_ (fun _ => ?_) (fun _ => ?_); omega; omega; omega; omega) | (with_reducible refine zb_eq ?_ ?_ ?_ ?_ (fun _ => ?_) (fun _ => ?_); omega; omega; omega; omega) | (with_reducible refine zb_leL ?_ ?_ ?_ ?_ (fun _ => ?_) (fun _ => ?_); omega; omega; omega; omega) | (with_reducible refine zb_ltL ?_ ?_ ?_ ?_ (fun _ => ?_) (fun _ => ?_); omega; omega; omega; omega) | (with_reducible refine zb_eqL ?_ ?_ ?_ ?_ (fun _ => ?_) (fun _ => ?_); omega; omega; omega; omega) | (with_reducible refine zb_nz ?_ ?_ ?_ ?_; omega; omega; omega) | (with_reducible refine zb_nzL ?_ ?_ ?_ ?_; omega; omega; omega) | with_reducible refine zb_ite ?_ | with_reducible refine zb_iteL ?_ | ((with_reducible intro y hy); subst hy; try simp only [zl32, zl64, i32_add, i32_sub, i32_mul, i32_neg, i64_add, i64_sub, i64_mul, i64_neg, cv_gi, cv_gw, cv_ga, cv_gl, cv_pi, cv_pw, cv_pa, cv_pl, zf_S, zf_i, zf_l, mz1, mz2, mz3, mz4, zr_ii, zr_iw, zr_ia, zr_il, zr_wi, zr_ww, zr_wa, zr_wl, zr_ai, zr_aw, zr_aa, zr_al, zr_li, zr_lw, zr_la, zr_ll, zw_ii, zw_ww, zw_aa, zw_ll, reduceIte, Nat.reduceEqDiff, if_true, if_false]) | with_reducible refine zb_o1 ?_ | with_reducible refine zb_o2 ?_ | with_reducible refine zb_o3 ?_ | with_reducible refine zb_o4 ?_ | with_reducible refine zb_tr ?_ | exact trivial | with_reducible refine zb_T ?_ | with_reducible refine zb_sp ?_ ?_)
        refine ih (code + 1) r.1 r.2.1 _ w (by omega) (huv.trans (hw.mono (by decide) (by decide) (by decide))) (by rw [hw.a 10 (by decide)]; exact hv1) (by rw [hw.i 11 (by decide)]; exact hv2) ?_ (by omega) hT.2.2 (by rw [List.length_append, List.length_singleton]; omega) h
        refine ⟨by rw [hfw.1, List.length_append, List.length_append, List.length_singleton, List.length_singleton], fun i x hx => ?_⟩
        rw [List.getElem?_append] at hx
        have hfw2 := hfw.2 i
        by_cases c : i < fs.length
        · rw [if_pos c] at hx
          refine hfw2 x ?_
          rw [List.getElem?_append, if_pos c]
          exact hx
        · rw [if_neg c] at hx
          have hi : i = fs.length := by
            have := (List.getElem?_eq_some_iff.mp hx).1
            rw [List.length_singleton] at this
            omega
          subst hi
          have q := hfw2 (d, r.2.2, tga v 16) (by rw [List.getElem?_append, if_neg c, Nat.sub_self]; rfl)
          rw [Nat.sub_self] at hx
          cases hx
          refine ⟨q.1, q.2.1, fun k hk => ?_⟩
          rw [q.2.2 k hk, hv16]
          exact hgq k hk
theorem zpow_le {p : Int} (hp : p = 2 ∨ p = 3 ∨ p = 5 ∨ p = 7) {d : Nat} (hd : d ≤ 5) : 1 ≤ p ^ d ∧ p ^ d ≤ 16807 := by
  have : d = 0 ∨ d = 1 ∨ d = 2 ∨ d = 3 ∨ d = 4 ∨ d = 5 := by omega
  rcases hp with rfl | rfl | rfl | rfl <;> rcases this with rfl | rfl | rfl | rfl | rfl | rfl <;> decide
theorem sM_dg (t : tS) (hP : zPR t) (Q : mS → Prop) : ∀ (n d L : Nat) (f : Nat → Int) (fs : List zF) (u : tS), 1 ≤ d → d + n = 6 → zfr [11, 12] [10, 13, 14, 15, 16, 17] [] t u → tga u 10 = f → tgi u 11 = (L : Int) → zFA u fs → L < 9 → zred (tgi t 0) 9 f → fs.length + L ≤ 8 →
    (∀ v, zfr [11, 12] [10, 13, 14, 15, 16, 17] [] t v → zFA v (zDg (tgi t 0) n d L f fs) → Q (cv v)) →
    wM_takesApart_l62 Q n (cv u) (i32 (tgi t 0 ^ (d - 1))) (i32 d) ∨ n = 0 := by
  intro n
  induction n with
  | zero => intros; exact Or.inr rfl
  | succ n ih =>
    intro d L f fs u hd hdn hu hf hL hfs hL9 hz hl h
    refine Or.inl ?_
    have hp := hP.p
    have hPu := hu.PR (by decide) (by decide) hP
    have e0 := hu.i 0 (by decide)
    rw [wM_takesApart_l62]
    unfold zDg at h
    try simp only [zl32, zl64, i32_add, i32_sub, i32_mul, i32_neg, i64_add, i64_sub, i64_mul, i64_neg, cv_gi, cv_gw, cv_ga, cv_gl, cv_pi, cv_pw, cv_pa, cv_pl, zf_S, zf_i, zf_l, mz1, mz2, mz3, mz4, zr_ii, zr_iw, zr_ia, zr_il, zr_wi, zr_ww, zr_wa, zr_wl, zr_ai, zr_aw, zr_aa, zr_al, zr_li, zr_lw, zr_la, zr_ll, zw_ii, zw_ww, zw_aa, zw_ll, reduceIte, Nat.reduceEqDiff, if_true, if_false]
    rw [hL]
    repeat' (first | (exfalso; omega) | (with_reducible refine zb_in ?_ ?_ ?_ ?_; omega; omega; omega) | (with_reducible refine zb_le ?_ ?_ ?_ ?_ (fun _ => ?_) (fun _ => ?_); omega; omega; omega; omega) | (with_reducible refine zb_lt ?_ ?_ ?_ ?_ (fun _ => ?_) (fun _ => ?_); omega; omega; omega; omega) | (with_reducible refine zb_eq ?_ ?_ ?_ ?_ (fun _ => ?_) (fun _ => ?_); omega; omega; omega; omega) | (with_reducible refine zb_leL ?_ ?_ ?_ ?_ (fun _ => ?_) (fun _ => ?_); omega; omega; omega; omega) | (with_reducible refine zb_ltL ?_ ?_ ?_ ?_ (fun _ => ?_) (fun _ => ?_); omega; omega; omega; omega) | (with_reducible refine zb_eqL ?_ ?_ ?_ ?_ (fun _ => ?_) (fun _ => ?_); omega; omega; omega; omega) | (with_reducible refine zb_nz ?_ ?_ ?_ ?_; omega; omega; omega) | (with_reducible refine zb_nzL ?_ ?_ ?_ ?_; omega; omega; omega) | with_reducible refine zb_ite ?_ | with_reducible refine zb_iteL ?_ | ((with_reducible intro y hy); subst hy; try simp only [zl32, zl64, i32_add, i32_sub, i32_mul, i32_neg, i64_add, i64_sub, i64_mul, i64_neg, cv_gi, cv_gw, cv_ga, cv_gl, cv_pi, cv_pw, cv_pa, cv_pl, zf_S, zf_i, zf_l, mz1, mz2, mz3, mz4, zr_ii, zr_iw, zr_ia, zr_il, zr_wi, zr_ww, zr_wa, zr_wl, zr_ai, zr_aw, zr_aa, zr_al, zr_li, zr_lw, zr_la, zr_ll, zw_ii, zw_ww, zw_aa, zw_ll, reduceIte, Nat.reduceEqDiff, if_true, if_false]) | with_reducible refine zb_o1 ?_ | with_reducible refine zb_o2 ?_ | with_reducible refine zb_o3 ?_ | with_reducible refine zb_o4 ?_ | with_reducible refine zb_tr ?_ | exact trivial | with_reducible refine zb_T ?_ | with_reducible refine zb_sp ?_ ?_)
    · rw [if_pos (by omega), if_pos (by omega)] at h
      exact h u hu hfs
    · rw [if_pos (by omega), if_neg (by omega)] at h
      -- the last one
      have S : ∀ n k : Nat, k + n = 9 → wM_takesApart_l161 Q (n + 1) (cv (tsa u 16 (zov k (fun k => if k ≤ L then f k else 0) (tga u 16)))) (i32 k) := by
        intro n
        induction n with
        | zero =>
          intro k hk
          have hk : k = 9 := by omega
          subst hk
          rw [wM_takesApart_l161]
          try simp only [zl32, zl64, i32_add, i32_sub, i32_mul, i32_neg, i64_add, i64_sub, i64_mul, i64_neg, cv_gi, cv_gw, cv_ga, cv_gl, cv_pi, cv_pw, cv_pa, cv_pl, zf_S, zf_i, zf_l, mz1, mz2, mz3, mz4, zr_ii, zr_iw, zr_ia, zr_il, zr_wi, zr_ww, zr_wa, zr_wl, zr_ai, zr_aw, zr_aa, zr_al, zr_li, zr_lw, zr_la, zr_ll, zw_ii, zw_ww, zw_aa, zw_ll, reduceIte, Nat.reduceEqDiff, if_true, if_false]
          rw [hL]
          repeat' (first | (exfalso; omega) | (with_reducible refine zb_in ?_ ?_ ?_ ?_; omega; omega; omega) | (with_reducible refine zb_le ?_ ?_ ?_ ?_ (fun _ => ?_) (fun _ => ?_); omega; omega; omega; omega) | (with_reducible refine zb_lt ?_ ?_ ?_ ?_ (fun _ => ?_) (fun _ => ?_); omega; omega; omega; omega) | (with_reducible refine zb_eq ?_ ?_ ?_ ?_ (fun _ => ?_) (fun _ => ?_); omega; omega; omega; omega) | (with_reducible refine zb_leL ?_ ?_ ?_ ?_ (fun _ => ?_) (fun _ => ?_); omega; omega; omega; omega) | (with_reducible refine zb_ltL ?_ ?_ ?_ ?_ (fun _ => ?_) (fun _ => ?_); omega; omega; omega; omega) | (with_reducible refine zb_eqL ?_ ?_ ?_ ?_ (fun _ => ?_) (fun _ => ?_); omega; omega; omega; omega) | (with_reducible refine zb_nz ?_ ?_ ?_ ?_; omega; omega; omega) | (with_reducible refine zb_nzL ?_ ?_ ?_ ?_; omega; omega; omega) | with_reducible refine zb_ite ?_ | with_reducible refine zb_iteL ?_ | ((with_reducible intro y hy); subst hy; try simp only [zl32, zl64, i32_add, i32_sub, i32_mul, i32_neg, i64_add, i64_sub, i64_mul, i64_neg, cv_gi, cv_gw, cv_ga, cv_gl, cv_pi, cv_pw, cv_pa, cv_pl, zf_S, zf_i, zf_l, mz1, mz2, mz3, mz4, zr_ii, zr_iw, zr_ia, zr_il, zr_wi, zr_ww, zr_wa, zr_wl, zr_ai, zr_aw, zr_aa, zr_al, zr_li, zr_lw, zr_la, zr_ll, zw_ii, zw_ww, zw_aa, zw_ll, reduceIte, Nat.reduceEqDiff, if_true, if_false]) | with_reducible refine zb_o1 ?_ | with_reducible refine zb_o2 ?_ | with_reducible refine zb_o3 ?_ | with_reducible refine zb_o4 ?_ | with_reducible refine zb_tr ?_ | exact trivial | with_reducible refine zb_T ?_ | with_reducible refine zb_sp ?_ ?_)
          obtain ⟨g, hg⟩ : ∃ g, g = zov 9 (fun k => if k ≤ L then f k else 0) (tga u 16) := ⟨_, rfl⟩
          rw [← hg]
          have hgq : ∀ q, q < 9 → g q = if q ≤ L then f q else 0 := by
            intro q hq
            rw [hg]
            unfold zov
            rw [if_pos hq]
          refine sM_addsFactor (tsa u 16 g) L 1 fs (hfs.moved rfl rfl rfl rfl) (by omega) (fun k hk => ?_) _ (fun w hw hfw => ?_)
          · rw [zr_aa, if_pos rfl, hgq k hk]
            have := hz k hk
            by_cases c : k ≤ L
            · rw [if_pos c]; omega
            · rw [if_neg c]; omega
          · refine h w ((hu.trans (zfr_sa (zfr.refl u) (by decide))).trans (hw.mono (by decide) (by decide) (by decide))) ?_
            refine ⟨by rw [hfw.1, List.length_append, List.length_append, List.length_singleton, List.length_singleton], fun i x hx => ?_⟩
            rw [List.getElem?_append] at hx
            have hfw2 := hfw.2 i
            by_cases c : i < fs.length
            · rw [if_pos c] at hx
              refine hfw2 x ?_
              rw [List.getElem?_append, if_pos c]
              exact hx
            · rw [if_neg c] at hx
              have hi : i = fs.length := by
                have := (List.getElem?_eq_some_iff.mp hx).1
                rw [List.length_singleton] at this
                omega
              subst hi
              have q := hfw2 (L, 1, tga (tsa u 16 g) 16) (by rw [List.getElem?_append, if_neg c, Nat.sub_self]; rfl)
              rw [Nat.sub_self] at hx
              cases hx
              refine ⟨q.1, q.2.1, fun k hk => ?_⟩
              rw [q.2.2 k hk]
              exact hgq k hk
        | succ n ih =>
          intro k hk
          have e := ih (k + 1) (by omega)
          rw [← zov_s] at e
          have r := hz k (by omega)
          rw [wM_takesApart_l161]
          try simp only [zl32, zl64, i32_add, i32_sub, i32_mul, i32_neg, i64_add, i64_sub, i64_mul, i64_neg, cv_gi, cv_gw, cv_ga, cv_gl, cv_pi, cv_pw, cv_pa, cv_pl, zf_S, zf_i, zf_l, mz1, mz2, mz3, mz4, zr_ii, zr_iw, zr_ia, zr_il, zr_wi, zr_ww, zr_wa, zr_wl, zr_ai, zr_aw, zr_aa, zr_al, zr_li, zr_lw, zr_la, zr_ll, zw_ii, zw_ww, zw_aa, zw_ll, reduceIte, Nat.reduceEqDiff, if_true, if_false]
          rw [hL, hf]
          try simp (disch := omega) only [zi9, zi7, zi40, zi360, zikj, zijd, zi9o, zi7o, zip1, zip, zim1, i32_natN, ziL, zi_0, zi_1]
          repeat' (first | (exfalso; omega) | (with_reducible refine zb_in ?_ ?_ ?_ ?_; omega; omega; omega) | (with_reducible refine zb_le ?_ ?_ ?_ ?_ (fun _ => ?_) (fun _ => ?_); omega; omega; omega; omega) | (with_reducible refine zb_lt ?_ ?_ ?_ ?_ (fun _ => ?_) (fun _ => ?_); omega; omega; omega; omega) | (with_reducible refine zb_eq ?_ ?_ ?_ ?_ (fun _ => ?_) (fun _ => ?_); omega; omega; omega; omega) | (with_reducible refine zb_leL ?_ ?_ ?_ ?_ (fun _ => ?_) (fun _ => ?_); omega; omega; omega; omega) | (with_reducible refine zb_ltL ?_ ?_ ?_ ?_ (fun _ => ?_) (fun _ => ?_); omega; omega; omega; omega) | (with_reducible refine zb_eqL ?_ ?_ ?_ ?_ (fun _ => ?_) (fun _ => ?_); omega; omega; omega; omega) | (with_reducible refine zb_nz ?_ ?_ ?_ ?_; omega; omega; omega) | (with_reducible refine zb_nzL ?_ ?_ ?_ ?_; omega; omega; omega) | with_reducible refine zb_ite ?_ | with_reducible refine zb_iteL ?_ | ((with_reducible intro y hy); subst hy; try simp only [zl32, zl64, i32_add, i32_sub, i32_mul, i32_neg, i64_add, i64_sub, i64_mul, i64_neg, cv_gi, cv_gw, cv_ga, cv_gl, cv_pi, cv_pw, cv_pa, cv_pl, zf_S, zf_i, zf_l, mz1, mz2, mz3, mz4, zr_ii, zr_iw, zr_ia, zr_il, zr_wi, zr_ww, zr_wa, zr_wl, zr_ai, zr_aw, zr_aa, zr_al, zr_li, zr_lw, zr_la, zr_ll, zw_ii, zw_ww, zw_aa, zw_ll, reduceIte, Nat.reduceEqDiff, if_true, if_false]) | with_reducible refine zb_o1 ?_ | with_reducible refine zb_o2 ?_ | with_reducible refine zb_o3 ?_ | with_reducible refine zb_o4 ?_ | with_reducible refine zb_tr ?_ | exact trivial | with_reducible refine zb_T ?_ | with_reducible refine zb_sp ?_ ?_)
          · rw [if_neg (by omega)] at e
            try simp (disch := omega) only [zi9, zi7, zi40, zi360, zikj, zijd, zi9o, zi7o, zip1, zip, zim1, i32_natN, ziL, zi_0, zi_1]
            exact e
          · rw [if_pos (by omega)] at e
            try simp (disch := omega) only [zi9, zi7, zi40, zi360, zikj, zijd, zi9o, zi7o, zip1, zip, zim1, i32_natN, ziL, zi_0, zi_1]
            exact e
      have e := S 9 0 rfl
      rw [zov_0, zw_a0] at e
      exact ⟨10, e⟩
    · rw [if_neg (by omega)] at h
      have hb := zpow_le hP.pr (d := d) (by omega)
      have hN : (((tgi t 0 ^ d).toNat : Nat) : Int) = tgi t 0 ^ d := Int.toNat_of_nonneg (by omega)
      have hC := zCd_ok (p := tgi t 0) (by omega) hd (tgi t 0 ^ d).toNat 0 L f fs hL9 hz hl
      refine ⟨(tgi t 0 ^ d).toNat + 1, ?_⟩
      have hx : tgi t 0 ^ (d - 1) * tgi u 0 = (((tgi t 0 ^ d).toNat : Nat) : Int) := by
        rw [hN, e0, ← Int.pow_succ, show (d - 1).succ = d by omega]
      rw [hx]
      refine sM_cd t d (tgi t 0 ^ d).toNat hd (by omega) (by omega) hP _ Q (tgi t 0 ^ d).toNat 0 L f fs u (by omega) hu hf hL hfs hL9 hz hl (fun v hv hv1 hv2 hv3 => ?_)
      have e := ih (d + 1) _ _ _ v (by omega) (by omega) hv hv1 hv2 hv3 (by omega) hC.2.2 hC.1 h
      rw [show d + 1 - 1 = d by omega, ← hN] at e
      rcases e with e | e
      · exact e
      · omega
theorem zred_zmnc {p : Int} (hp : 0 < p) {f : Nat → Int} {L : Nat} (h : zred p 9 f) : zred p 9 (zmnc p L f) := by
  intro q hq
  unfold zmnc
  by_cases c : q ≤ L
  · rw [if_pos c]
    exact ⟨Int.emod_nonneg _ (by omega), Int.emod_lt_of_pos _ hp⟩
  · rw [if_neg c]
    exact h q hq
theorem sM_takesApart (t : tS) (hP : zPR t) (hz : zred (tgi t 0) 9 (tga t 10)) (hn : 0 ≤ degN (tga t 10) 9) (Q : mS → Prop) (h : ∀ v, zfr [11, 12] [10, 13, 14, 15, 16, 17] [] t v → zFA v (zFc (tgi t 0) (tga t 10)) → Q (cv v)) : wM_takesApart (cv t) Q := by
  have hp := hP.p
  have hdl := degN_lt (tga t 10) 9
  obtain ⟨L, hL⟩ : ∃ L : Nat, degN (tga t 10) 9 = (L : Int) := ⟨(degN (tga t 10) 9).toNat, by omega⟩
  have hl0 := degN_at (tga t 10) 9 L hL
  have hlr := hz L (by omega)
  unfold zFc at h
  rw [hL, Int.toNat_natCast] at h
  have hi := zinv_ok hP.pr (v := tga t 10 L) (by omega) (by omega)
  unfold wM_takesApart
  try simp only [zl32, zl64, i32_add, i32_sub, i32_mul, i32_neg, i64_add, i64_sub, i64_mul, i64_neg, cv_gi, cv_gw, cv_ga, cv_gl, cv_pi, cv_pw, cv_pa, cv_pl, zf_S, zf_i, zf_l, mz1, mz2, mz3, mz4, zr_ii, zr_iw, zr_ia, zr_il, zr_wi, zr_ww, zr_wa, zr_wl, zr_ai, zr_aw, zr_aa, zr_al, zr_li, zr_lw, zr_la, zr_ll, zw_ii, zw_ww, zw_aa, zw_ll, reduceIte, Nat.reduceEqDiff, if_true, if_false]
  refine sM_measures (tpi t 12 0) _ (fun k hk => by rw [zr_ai]; have := hz k hk; omega) ?_
  rw [zr_ai, hL]
  try simp only [zl32, zl64, i32_add, i32_sub, i32_mul, i32_neg, i64_add, i64_sub, i64_mul, i64_neg, cv_gi, cv_gw, cv_ga, cv_gl, cv_pi, cv_pw, cv_pa, cv_pl, zf_S, zf_i, zf_l, mz1, mz2, mz3, mz4, zr_ii, zr_iw, zr_ia, zr_il, zr_wi, zr_ww, zr_wa, zr_wl, zr_ai, zr_aw, zr_aa, zr_al, zr_li, zr_lw, zr_la, zr_ll, zw_ii, zw_ww, zw_aa, zw_ll, reduceIte, Nat.reduceEqDiff, if_true, if_false]
  try simp (disch := omega) only [zi9, zi7, zi40, zi360, zikj, zijd, zi9o, zi7o, zip1, zip, zim1, i32_natN, ziL, zi_0, zi_1]
  repeat' (first | (exfalso; omega) | (with_reducible refine zb_in ?_ ?_ ?_ ?_; omega; omega; omega) | (with_reducible refine zb_le ?_ ?_ ?_ ?_ (fun _ => ?_) (fun _ => ?_); omega; omega; omega; omega) | (with_reducible refine zb_lt ?_ ?_ ?_ ?_ (fun _ => ?_) (fun _ => ?_); omega; omega; omega; omega) | (with_reducible refine zb_eq ?_ ?_ ?_ ?_ (fun _ => ?_) (fun _ => ?_); omega; omega; omega; omega) | (with_reducible refine zb_leL ?_ ?_ ?_ ?_ (fun _ => ?_) (fun _ => ?_); omega; omega; omega; omega) | (with_reducible refine zb_ltL ?_ ?_ ?_ ?_ (fun _ => ?_) (fun _ => ?_); omega; omega; omega; omega) | (with_reducible refine zb_eqL ?_ ?_ ?_ ?_ (fun _ => ?_) (fun _ => ?_); omega; omega; omega; omega) | (with_reducible refine zb_nz ?_ ?_ ?_ ?_; omega; omega; omega) | (with_reducible refine zb_nzL ?_ ?_ ?_ ?_; omega; omega; omega) | with_reducible refine zb_ite ?_ | with_reducible refine zb_iteL ?_ | ((with_reducible intro y hy); subst hy; try simp only [zl32, zl64, i32_add, i32_sub, i32_mul, i32_neg, i64_add, i64_sub, i64_mul, i64_neg, cv_gi, cv_gw, cv_ga, cv_gl, cv_pi, cv_pw, cv_pa, cv_pl, zf_S, zf_i, zf_l, mz1, mz2, mz3, mz4, zr_ii, zr_iw, zr_ia, zr_il, zr_wi, zr_ww, zr_wa, zr_wl, zr_ai, zr_aw, zr_aa, zr_al, zr_li, zr_lw, zr_la, zr_ll, zw_ii, zw_ww, zw_aa, zw_ll, reduceIte, Nat.reduceEqDiff, if_true, if_false]) | with_reducible refine zb_o1 ?_ | with_reducible refine zb_o2 ?_ | with_reducible refine zb_o3 ?_ | with_reducible refine zb_o4 ?_ | with_reducible refine zb_tr ?_ | exact trivial | with_reducible refine zb_T ?_ | with_reducible refine zb_sp ?_ ?_)
  refine sM_inverse (tpi (tpi t 12 0) 11 L) (tga t 10 L) hP (by omega) (by try simp only [zl32, zl64, i32_add, i32_sub, i32_mul, i32_neg, i64_add, i64_sub, i64_mul, i64_neg, cv_gi, cv_gw, cv_ga, cv_gl, cv_pi, cv_pw, cv_pa, cv_pl, zf_S, zf_i, zf_l, mz1, mz2, mz3, mz4, zr_ii, zr_iw, zr_ia, zr_il, zr_wi, zr_ww, zr_wa, zr_wl, zr_ai, zr_aw, zr_aa, zr_al, zr_li, zr_lw, zr_la, zr_ll, zw_ii, zw_ww, zw_aa, zw_ll, reduceIte, Nat.reduceEqDiff, if_true, if_false]; omega) _ ?_
  try simp only [zl32, zl64, i32_add, i32_sub, i32_mul, i32_neg, i64_add, i64_sub, i64_mul, i64_neg, cv_gi, cv_gw, cv_ga, cv_gl, cv_pi, cv_pw, cv_pa, cv_pl, zf_S, zf_i, zf_l, mz1, mz2, mz3, mz4, zr_ii, zr_iw, zr_ia, zr_il, zr_wi, zr_ww, zr_wa, zr_wl, zr_ai, zr_aw, zr_aa, zr_al, zr_li, zr_lw, zr_la, zr_ll, zw_ii, zw_ww, zw_aa, zw_ll, reduceIte, Nat.reduceEqDiff, if_true, if_false]
  revert hi
  have S : ∀ n k : Nat, k + n = L + 1 → wM_takesApart_l25 Q (i32 (zinv (tgi t 0) (tga t 10 L))) (n + 1) (cv (tsa (tpi (tpi t 12 0) 11 L) 10 (zov k (zmnc (tgi t 0) L (tga t 10)) (tga t 10)))) (i32 k) := by
    intro n
    induction n with
    | zero =>
      intro k hk
      have hk : k = L + 1 := by omega
      subst hk
      rw [wM_takesApart_l25]
      try simp only [zl32, zl64, i32_add, i32_sub, i32_mul, i32_neg, i64_add, i64_sub, i64_mul, i64_neg, cv_gi, cv_gw, cv_ga, cv_gl, cv_pi, cv_pw, cv_pa, cv_pl, zf_S, zf_i, zf_l, mz1, mz2, mz3, mz4, zr_ii, zr_iw, zr_ia, zr_il, zr_wi, zr_ww, zr_wa, zr_wl, zr_ai, zr_aw, zr_aa, zr_al, zr_li, zr_lw, zr_la, zr_ll, zw_ii, zw_ww, zw_aa, zw_ll, reduceIte, Nat.reduceEqDiff, if_true, if_false]
      repeat' (first | (exfalso; omega) | (with_reducible refine zb_in ?_ ?_ ?_ ?_; omega; omega; omega) | (with_reducible refine zb_le ?_ ?_ ?_ ?_ (fun _ => ?_) (fun _ => ?_); omega; omega; omega; omega) | (with_reducible refine zb_lt ?_ ?_ ?_ ?_ (fun _ => ?_) (fun _ => ?_); omega; omega; omega; omega) | (with_reducible refine zb_eq ?_ ?_ ?_ ?_ (fun _ => ?_) (fun _ => ?_); omega; omega; omega; omega) | (with_reducible refine zb_leL ?_ ?_ ?_ ?_ (fun _ => ?_) (fun _ => ?_); omega; omega; omega; omega) | (with_reducible refine zb_ltL ?_ ?_ ?_ ?_ (fun _ => ?_) (fun _ => ?_); omega; omega; omega; omega) | (with_reducible refine zb_eqL ?_ ?_ ?_ ?_ (fun _ => ?_) (fun _ => ?_); omega; omega; omega; omega) | (with_reducible refine zb_nz ?_ ?_ ?_ ?_; omega; omega; omega) | (with_reducible refine zb_nzL ?_ ?_ ?_ ?_; omega; omega; omega) | with_reducible refine zb_ite ?_ | with_reducible refine zb_iteL ?_ | ((with_reducible intro y hy); subst hy; try simp only [zl32, zl64, i32_add, i32_sub, i32_mul, i32_neg, i64_add, i64_sub, i64_mul, i64_neg, cv_gi, cv_gw, cv_ga, cv_gl, cv_pi, cv_pw, cv_pa, cv_pl, zf_S, zf_i, zf_l, mz1, mz2, mz3, mz4, zr_ii, zr_iw, zr_ia, zr_il, zr_wi, zr_ww, zr_wa, zr_wl, zr_ai, zr_aw, zr_aa, zr_al, zr_li, zr_lw, zr_la, zr_ll, zw_ii, zw_ww, zw_aa, zw_ll, reduceIte, Nat.reduceEqDiff, if_true, if_false]) | with_reducible refine zb_o1 ?_ | with_reducible refine zb_o2 ?_ | with_reducible refine zb_o3 ?_ | with_reducible refine zb_o4 ?_ | with_reducible refine zb_tr ?_ | exact trivial | with_reducible refine zb_T ?_ | with_reducible refine zb_sp ?_ ?_)
      have e1 : zov (L + 1) (zmnc (tgi t 0) L (tga t 10)) (tga t 10) = zmnc (tgi t 0) L (tga t 10) := by
        funext q
        unfold zov
        by_cases c : q < L + 1
        · rw [if_pos c]
        · rw [if_neg c]
          unfold zmnc
          rw [if_neg (by omega)]
      rw [e1]
      refine ⟨5, ?_⟩
      have e := sM_dg t hP Q 5 1 L (zmnc (tgi t 0) L (tga t 10)) [] (tsa (tpi (tpi t 12 0) 11 L) 10 (zmnc (tgi t 0) L (tga t 10))) (by omega) (by omega) (zfr_sa (zfr_pi (zfr_pi (zfr.refl t) (by decide)) (by decide)) (by decide)) (by try simp only [zl32, zl64, i32_add, i32_sub, i32_mul, i32_neg, i64_add, i64_sub, i64_mul, i64_neg, cv_gi, cv_gw, cv_ga, cv_gl, cv_pi, cv_pw, cv_pa, cv_pl, zf_S, zf_i, zf_l, mz1, mz2, mz3, mz4, zr_ii, zr_iw, zr_ia, zr_il, zr_wi, zr_ww, zr_wa, zr_wl, zr_ai, zr_aw, zr_aa, zr_al, zr_li, zr_lw, zr_la, zr_ll, zw_ii, zw_ww, zw_aa, zw_ll, reduceIte, Nat.reduceEqDiff, if_true, if_false]) (by try simp only [zl32, zl64, i32_add, i32_sub, i32_mul, i32_neg, i64_add, i64_sub, i64_mul, i64_neg, cv_gi, cv_gw, cv_ga, cv_gl, cv_pi, cv_pw, cv_pa, cv_pl, zf_S, zf_i, zf_l, mz1, mz2, mz3, mz4, zr_ii, zr_iw, zr_ia, zr_il, zr_wi, zr_ww, zr_wa, zr_wl, zr_ai, zr_aw, zr_aa, zr_al, zr_li, zr_lw, zr_la, zr_ll, zw_ii, zw_ww, zw_aa, zw_ll, reduceIte, Nat.reduceEqDiff, if_true, if_false]) ⟨by try simp only [zl32, zl64, i32_add, i32_sub, i32_mul, i32_neg, i64_add, i64_sub, i64_mul, i64_neg, cv_gi, cv_gw, cv_ga, cv_gl, cv_pi, cv_pw, cv_pa, cv_pl, zf_S, zf_i, zf_l, mz1, mz2, mz3, mz4, zr_ii, zr_iw, zr_ia, zr_il, zr_wi, zr_ww, zr_wa, zr_wl, zr_ai, zr_aw, zr_aa, zr_al, zr_li, zr_lw, zr_la, zr_ll, zw_ii, zw_ww, zw_aa, zw_ll, reduceIte, Nat.reduceEqDiff, if_true, if_false]; rfl, fun i x hx => by cases hx⟩ (by omega) (zred_zmnc (by omega) hz) (by rw [List.length_nil]; omega) h
      rcases e with e | e
      · rw [Nat.sub_self, Int.pow_zero] at e
        exact e
      · omega
    | succ n ih =>
      intro k hk
      have e := ih (k + 1) (by omega)
      rw [← zov_s] at e
      have r := hz k (by omega)
      have hi := zinv_ok hP.pr (v := tga t 10 L) (by omega) (by omega)
      have rb := ze_mulp r.1 r.2 (b := zinv (tgi t 0) (tga t 10 L)) (by omega) hi.2.1 hp.2
      have ek : zov k (zmnc (tgi t 0) L (tga t 10)) (tga t 10) k = tga t 10 k := by
        unfold zov
        rw [if_neg (by omega)]
      unfold zmnc at e
      rw [if_pos (by omega)] at e
      rw [wM_takesApart_l25]
      try simp only [zl32, zl64, i32_add, i32_sub, i32_mul, i32_neg, i64_add, i64_sub, i64_mul, i64_neg, cv_gi, cv_gw, cv_ga, cv_gl, cv_pi, cv_pw, cv_pa, cv_pl, zf_S, zf_i, zf_l, mz1, mz2, mz3, mz4, zr_ii, zr_iw, zr_ia, zr_il, zr_wi, zr_ww, zr_wa, zr_wl, zr_ai, zr_aw, zr_aa, zr_al, zr_li, zr_lw, zr_la, zr_ll, zw_ii, zw_ww, zw_aa, zw_ll, reduceIte, Nat.reduceEqDiff, if_true, if_false]
      try simp (disch := omega) only [zi9, zi7, zi40, zi360, zikj, zijd, zi9o, zi7o, zip1, zip, zim1, i32_natN, ziL, zi_0, zi_1]
      rw [ek, i32_div (by omega) (by omega) (by omega) (by omega)]
      try simp only [zl32, zl64, i32_add, i32_sub, i32_mul, i32_neg, i64_add, i64_sub, i64_mul, i64_neg, cv_gi, cv_gw, cv_ga, cv_gl, cv_pi, cv_pw, cv_pa, cv_pl, zf_S, zf_i, zf_l, mz1, mz2, mz3, mz4, zr_ii, zr_iw, zr_ia, zr_il, zr_wi, zr_ww, zr_wa, zr_wl, zr_ai, zr_aw, zr_aa, zr_al, zr_li, zr_lw, zr_la, zr_ll, zw_ii, zw_ww, zw_aa, zw_ll, reduceIte, Nat.reduceEqDiff, if_true, if_false]
      simp only [ze_tdivn rb.1, ze_emodn]
      repeat' (first | (exfalso; omega) | (with_reducible refine zb_in ?_ ?_ ?_ ?_; omega; omega; omega) | (with_reducible refine zb_le ?_ ?_ ?_ ?_ (fun _ => ?_) (fun _ => ?_); omega; omega; omega; omega) | (with_reducible refine zb_lt ?_ ?_ ?_ ?_ (fun _ => ?_) (fun _ => ?_); omega; omega; omega; omega) | (with_reducible refine zb_eq ?_ ?_ ?_ ?_ (fun _ => ?_) (fun _ => ?_); omega; omega; omega; omega) | (with_reducible refine zb_leL ?_ ?_ ?_ ?_ (fun _ => ?_) (fun _ => ?_); omega; omega; omega; omega) | (with_reducible refine zb_ltL ?_ ?_ ?_ ?_ (fun _ => ?_) (fun _ => ?_); omega; omega; omega; omega) | (with_reducible refine zb_eqL ?_ ?_ ?_ ?_ (fun _ => ?_) (fun _ => ?_); omega; omega; omega; omega) | (with_reducible refine zb_nz ?_ ?_ ?_ ?_; omega; omega; omega) | (with_reducible refine zb_nzL ?_ ?_ ?_ ?_; omega; omega; omega) | with_reducible refine zb_ite ?_ | with_reducible refine zb_iteL ?_ | ((with_reducible intro y hy); subst hy; try simp only [zl32, zl64, i32_add, i32_sub, i32_mul, i32_neg, i64_add, i64_sub, i64_mul, i64_neg, cv_gi, cv_gw, cv_ga, cv_gl, cv_pi, cv_pw, cv_pa, cv_pl, zf_S, zf_i, zf_l, mz1, mz2, mz3, mz4, zr_ii, zr_iw, zr_ia, zr_il, zr_wi, zr_ww, zr_wa, zr_wl, zr_ai, zr_aw, zr_aa, zr_al, zr_li, zr_lw, zr_la, zr_ll, zw_ii, zw_ww, zw_aa, zw_ll, reduceIte, Nat.reduceEqDiff, if_true, if_false]) | with_reducible refine zb_o1 ?_ | with_reducible refine zb_o2 ?_ | with_reducible refine zb_o3 ?_ | with_reducible refine zb_o4 ?_ | with_reducible refine zb_tr ?_ | exact trivial | with_reducible refine zb_T ?_ | with_reducible refine zb_sp ?_ ?_)
      exact e
  intro hi
  have e := S (L + 1) 0 (by omega)
  rw [zov_0, show tsa (tpi (tpi t 12 0) 11 L) 10 (tga t 10) = tpi (tpi t 12 0) 11 L from zw_a0 (tpi (tpi t 12 0) 11 (L : Int)) 10] at e
  exact ⟨_, e⟩
