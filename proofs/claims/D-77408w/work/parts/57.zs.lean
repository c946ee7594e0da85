/-! PURE 28: the model takes a factor of a side -/
set_option maxRecDepth 100000
/-- facts of a knot at hand -/
theorem zTR.at {t : tS} {f : Nat → Int} {T : zT} (h : zTR t f T) {pa : zP} {m : Nat} (hx : T.1[zpA pa (zpL pa)]? = some (pa, m)) : zKy t pa ∧ zWy t pa ∧ zMd t pa ∧ zGood (tgw t) (tgi t 0) pa ∧ (2 ≤ m ∧ m ≤ 8) ∧ (∀ k, 1 ≤ k → k ≤ zpL pa → zpA pa k ≤ zpA pa (zpL pa)) ∧ zpA pa (zpL pa) < T.1.length ∧ zKn t pa m (zso (tgw t) (tgi t 0) f (T.1.take (zpA pa (zpL pa)))) (tgw t) (tgi t 0) f := by
  have e := h.2.2.2.2.2.2 _ _ hx
  obtain ⟨h1, h2, h3, h4, h5, h6, h7, h8, h9⟩ := e
  exact ⟨h4, h5, h6, h9, h2, h3, (List.getElem?_eq_some_iff.mp hx).1, h7⟩
/-- a knot's record is put behind the others -/
theorem zTR.push {t v : tS} {f : Nat → Int} {T : zT} (h : zTR t f T) {pa : zP} {m : Nat} (ho : zOld T.1.length (zso (tgw t) (tgi t 0) f T.1) t v) (hP : zPR v) (hw : tgw v = tgw t) (h0 : tgi v 0 = tgi t 0) (h19 : tgl v 19 = tgl t 19) (h21 : tgi v 21 = (T.1.length : Int) + 1) (h22 : tgi v 22 = ((zso (tgw t) (tgi t 0) f T.1 + (zhull (zpts (tgw t) (tgi t 0) pa f m) m).length : Nat) : Int)) (hls : zLA v (T.2 ++ zleaf0 pa (zfst (zpts (tgw t) (tgi t 0) pa f m) m) (zpA pa (zpL pa)))) (hrec : zRec v (tgw t) (tgi t 0) f T.1.length (zso (tgw t) (tgi t 0) f T.1) (pa, m)) : zTR v f (zst0 (tgw t) (tgi t 0) f pa m T) := by
  obtain ⟨q1, q2, q3, q4, q5, q6, q7⟩ := h
  refine ⟨hP, by rw [hw]; exact q2, by rw [h19]; exact q3, ?_, ?_, hls, fun i x hx => ?_⟩
  · show _ = (((T.1 ++ [(pa, m)]).length : Nat) : Int)
    rw [h21, List.length_append, List.length_singleton]
    omega
  · show _ = ((zso _ _ f (T.1 ++ [(pa, m)]) : Nat) : Int)
    rw [h22, zso_app, hw, h0]
    rfl
  · have hx : (T.1 ++ [(pa, m)])[i]? = some x := hx
    show zRec v _ _ f i (zso _ _ f ((T.1 ++ [(pa, m)]).take i)) x
    rw [hw, h0]
    rw [List.getElem?_append] at hx
    by_cases c : i < T.1.length
    · rw [if_pos c] at hx
      rw [List.take_append_of_le_length (by omega)]
      exact (q7 i x hx).old c (zso_take hx) ho
    · rw [if_neg c] at hx
      have hi : i = T.1.length := by
        have := (List.getElem?_eq_some_iff.mp hx).1
        rw [List.length_singleton] at this
        omega
      subst hi
      rw [Nat.sub_self] at hx
      cases hx
      rw [List.take_left]
      exact hrec
theorem sM_takesFactor (t : tS) (pa : zP) (m s i : Nat) (f : Nat → Int) (T : zT) (x : Nat × Nat) (fs : List zF) (fa : zF) (G : zP → Nat → zT → zT) (hT : zTR t f T) (hx : T.1[zpA pa (zpL pa)]? = some (pa, m)) (hH : zHd t pa) (hme : m * zpD pa (zpL pa) ≤ 8) (hsf : zSf (tgw t) (tgi t 0) f pa m x) (hsa : zSA t s (zside (tgw t) (tgi t 0) pa f (zpts (tgw t) (tgi t 0) pa f m) x)) (hs : s < 64) (hfs : zFA t fs) (hi : fs[i]? = some fa) (hi9 : i < 9) (hfa : zfok fa ∧ 0 < zroot (tgi t 0) fa ∧ zroot (tgi t 0) fa < tgi t 0) (hfr : 0 ≤ fa.2.2 0 ∧ fa.2.2 0 < tgi t 0) (hfb : fa.1 * fa.2.1 ≤ zgd (zpts (tgw t) (tgi t 0) pa f m) x.1 x.2) (hl : T.2.length < 20) (hk40 : T.1.length < 40) (h61 : tgi t 61 = (zpL pa : Int)) (hS64 : zso (tgw t) (tgi t 0) f T.1 + 8 ≤ 64) (Q : mS → Prop)
    (hlf : (fa.2.1 = 1 ∨ 1 < fa.1 ∨ zpL pa = 6) → ∀ v, zfr [23] [44, 45, 46, 47, 48] [] t v → zTR v f (zch G (tgw t) (tgi t 0) pa (zside (tgw t) (tgi t 0) pa f (zpts (tgw t) (tgi t 0) pa f m) x) T fa) → Q (cv v))
    (hkn : ¬ (fa.2.1 = 1 ∨ 1 < fa.1 ∨ zpL pa = 6) → ∀ v pa', pa' = zext pa T.1.length (znk (tgw t) (tgi t 0) pa (zrm (zpts (tgw t) (tgi t 0) pa f m) x.1 x.2) (zvm pa (zsl pa (zpts (tgw t) (tgi t 0) pa f m) x.1 x.2)) (zroot (tgi t 0) fa)) (zrm (zpts (tgw t) (tgi t 0) pa f m) x.1 x.2) (zsl pa (zpts (tgw t) (tgi t 0) pa f m) x.1 x.2) (zroot (tgi t 0) fa) (zvm pa (zsl pa (zpts (tgw t) (tgi t 0) pa f m) x.1 x.2)) → zGood (tgw t) (tgi t 0) pa' → 2 ≤ fa.2.1 → fa.2.1 ≤ 8 → fa.2.1 * zpD pa' (zpL pa') ≤ 8 → zfr [21, 22, 23, 49, 56, 61] [24, 25, 26, 27, 28, 29, 30, 31, 32, 33, 34, 35, 36, 37, 38, 39, 40, 41, 42, 43, 44, 45, 46, 47, 48, 50, 51, 52, 53, 54, 55, 58, 59, 60] [8, 9, 57] t v → zTR v f (zst0 (tgw t) (tgi t 0) f pa' fa.2.1 T) → tgi v 61 = (zpL pa : Int) + 1 → tga v 58 = zup (tga t 58) (zpL pa + 1) T.1.length → tga v 59 = zup (tga t 59) (zpL pa + 1) 0 → tga v 60 = zup (tga t 60) (zpL pa + 1) 0 → Q (cv v)) : wM_takesFactor (cv t) (i32 (zpA pa (zpL pa))) (i32 s) (i32 i) Q := by
  obtain ⟨hK, hW, hM, hg, hm28, hanc, hknl, hKn⟩ := hT.at hx
  have hP := hT.1
  have hw := hP.w
  have hp := hP.p
  have hL6 := hg.1.2.1
  have hL1 := hg.1.1
  have h49 := hH.1
  have hDL := hg.1.D (k := zpL pa) hL1 (Nat.le_refl _)
  have h51 := (hH.2.1 (zpL pa) hL1 (Nat.le_refl _)).1
  obtain ⟨x1, x2, x3, x4⟩ := hsf
  obtain ⟨g1, g2, g3, g4, g5, g6, g7⟩ := zgd_ok x1 x4
  have hls := hT.2.2.2.2.2.1
  obtain ⟨fd, ft, fc⟩ := hfs.2 i fa hi
  obtain ⟨sa1, sa2, sa3, sa4, sa5, sa6, sa7, sa8⟩ := hsa
  have e39 : tga t 39 s = (zrm (zpts (tgw t) (tgi t 0) pa f m) x.1 x.2 : Int) := sa5
  have e41 : tga t 41 s = zsl pa (zpts (tgw t) (tgi t 0) pa f m) x.1 x.2 := sa6
  have e42 : ∀ q, q < 7 → tga t 42 (7 * s + q) = zvm pa (zsl pa (zpts (tgw t) (tgi t 0) pa f m) x.1 x.2) q := sa7
  have hf1 := hfa.1.1
  have hf2 := hfa.1.2
  have hff1 : fa.1 ≤ fa.1 * fa.2.1 := Nat.le_mul_of_pos_right _ hf2
  have hff2 : fa.2.1 ≤ fa.1 * fa.2.1 := Nat.le_mul_of_pos_left _ hf1
  have leaf : ∀ (l : zL) u, zfr [23] [44, 45, 46, 47, 48] [] t u → zLA u (T.2 ++ [l]) → zTR u f (T.1, T.2 ++ [l]) := fun l u f1 f2 => hT.leaf f1 (by decide) (by decide) (by decide) (by decide) (fun k a b => by simp; omega) (by decide) (by decide) f2
  obtain ⟨ram, hram⟩ : ∃ ram, ram = zrm (zpts (tgw t) (tgi t 0) pa f m) x.1 x.2 := ⟨_, rfl⟩
  obtain ⟨slope, hslope⟩ : ∃ slope, slope = zsl pa (zpts (tgw t) (tgi t 0) pa f m) x.1 x.2 := ⟨_, rfl⟩
  unfold zch at hlf
  rw [show (zside (tgw t) (tgi t 0) pa f (zpts (tgw t) (tgi t 0) pa f m) x).2.2.2.2.1 = ram from hram.symm] at hlf
  rw [← hram] at e39 hkn g3 g4
  rw [← hslope] at e41 e42 hkn
  unfold wM_takesFactor
  try simp only [zl32, zl64, i32_add, i32_sub, i32_mul, i32_neg, i64_add, i64_sub, i64_mul, i64_neg, cv_gi, cv_gw, cv_ga, cv_gl, cv_pi, cv_pw, cv_pa, cv_pl, zf_S, zf_i, zf_l, mz1, mz2, mz3, mz4, zr_ii, zr_iw, zr_ia, zr_il, zr_wi, zr_ww, zr_wa, zr_wl, zr_ai, zr_aw, zr_aa, zr_al, zr_li, zr_lw, zr_la, zr_ll, zw_ii, zw_ww, zw_aa, zw_ll, reduceIte, Nat.reduceEqDiff, if_true, if_false]
  rw [h49]
  try simp (disch := omega) only [zi9, zi7, zi40, zi360, zikj, zijd, zi9o, zi7o, zip1, zip, zim1, i32_natN, ziL, zi_0, zi_1]
  rw [h51, e39, ft, fd]
  repeat' (first | (exfalso; omega) | (with_reducible refine zb_in ?_ ?_ ?_ ?_; omega; omega; omega) | (with_reducible refine zb_le ?_ ?_ ?_ ?_ (fun _ => ?_) (fun _ => ?_); omega; omega; omega; omega) | (with_reducible refine zb_lt ?_ ?_ ?_ ?_ (fun _ => ?_) (fun _ => ?_); omega; omega; omega; omega) | (with_reducible refine zb_eq ?_ ?_ ?_ ?_ (fun _ => ?_) (fun _ => ?_); omega; omega; omega; omega) | (with_reducible refine zb_leL ?_ ?_ ?_ ?_ (fun _ => ?_) (fun _ => ?_); omega; omega; omega; omega) | (with_reducible refine zb_ltL ?_ ?_ ?_ ?_ (fun _ => ?_) (fun _ => ?_); omega; omega; omega; omega) | (with_reducible refine zb_eqL ?_ ?_ ?_ ?_ (fun _ => ?_) (fun _ => ?_); omega; omega; omega; omega) | (with_reducible refine zb_nz ?_ ?_ ?_ ?_; omega; omega; omega) | (with_reducible refine zb_nzL ?_ ?_ ?_ ?_; omega; omega; omega) | with_reducible refine zb_ite ?_ | with_reducible refine zb_iteL ?_ | ((with_reducible intro y hy); subst hy; try simp only [zl32, zl64, i32_add, i32_sub, i32_mul, i32_neg, i64_add, i64_sub, i64_mul, i64_neg, cv_gi, cv_gw, cv_ga, cv_gl, cv_pi, cv_pw, cv_pa, cv_pl, zf_S, zf_i, zf_l, mz1, mz2, mz3, mz4, zr_ii, zr_iw, zr_ia, zr_il, zr_wi, zr_ww, zr_wa, zr_wl, zr_ai, zr_aw, zr_aa, zr_al, zr_li, zr_lw, zr_la, zr_ll, zw_ii, zw_ww, zw_aa, zw_ll, reduceIte, Nat.reduceEqDiff, if_true, if_false]) | with_reducible refine zb_o1 ?_ | with_reducible refine zb_o2 ?_ | with_reducible refine zb_o3 ?_ | with_reducible refine zb_o4 ?_ | with_reducible refine zb_tr ?_ | exact trivial | with_reducible refine zb_T ?_ | with_reducible refine zb_sp ?_ ?_)
  · -- once
    rw [if_pos (by omega)] at hlf
    refine sM_addsLeaf t T.2 _ _ _ _ _ hls hl _ (fun u f1 f2 => hlf (Or.inl (by omega)) u f1 ?_)
    rw [Int.natCast_mul]
    exact leaf _ u f1 f2
  · -- too deep
    rw [if_neg (by omega), if_neg (by omega), if_pos (by omega)] at hlf
    refine sM_addsLeaf t T.2 _ _ _ _ _ hls hl _ (fun u f1 f2 => hlf (Or.inr (Or.inr (by omega))) u f1 ?_)
    rw [Int.natCast_mul]
    exact leaf _ u f1 f2
  · -- a knot
    have hno : ¬ (fa.2.1 = 1 ∨ 1 < fa.1 ∨ zpL pa = 6) := by omega
    have hf11 : fa.1 = 1 := by omega
    have ht2 : 2 ≤ fa.2.1 := by omega
    rw [hf11, Nat.one_mul] at hfb
    have hw1 : fa.2.1 * ram ≤ m := by
      have : fa.2.1 * ram ≤ zgd (zpts (tgw t) (tgi t 0) pa f m) x.1 x.2 * ram := Nat.mul_le_mul_right _ hfb
      omega
    have hw2 : fa.2.1 * (zpD pa (zpL pa) * ram) ≤ 8 := by
      have : fa.2.1 * ram * zpD pa (zpL pa) ≤ m * zpD pa (zpL pa) := Nat.mul_le_mul_right _ hw1
      rw [Nat.mul_comm (zpD pa (zpL pa)), ← Nat.mul_assoc]
      omega
    have hw3 : zpD pa (zpL pa) * ram ≤ 4 := by
      have : 2 * (zpD pa (zpL pa) * ram) ≤ fa.2.1 * (zpD pa (zpL pa) * ram) := Nat.mul_le_mul_right _ ht2
      omega
    have ht8 : fa.2.1 ≤ 8 := by omega
    have hr8 : ram ≤ 4 := by
      have : ram ≤ zpD pa (zpL pa) * ram := Nat.le_mul_of_pos_left _ hDL.1
      omega
    obtain ⟨key, hkey⟩ : ∃ key, key = znk (tgw t) (tgi t 0) pa ram (zvm pa slope) (zroot (tgi t 0) fa) := ⟨_, rfl⟩
    obtain ⟨pa', hpa'⟩ : ∃ pa', pa' = zext pa T.1.length key ram slope (zroot (tgi t 0) fa) (zvm pa slope) := ⟨_, rfl⟩
    have gd : zGood (tgw t) (tgi t 0) pa' := by
      rw [hpa', hram, hslope]
      exact zchild_good hP.pr (by omega) hg (by omega) hm28.2 x1 x3 x4 T.1.length (by rw [hkey]; exact znk_red (by omega)) hfa.2 (by rw [← hram]; exact hw3)
    have hpaL : zpL pa' = zpL pa + 1 := by rw [hpa']; rfl
    have hpaA : zpA pa' (zpL pa') = T.1.length := by
      rw [hpa']
      show (if zpL pa + 1 = zpL pa + 1 then _ else _) = _
      rw [if_pos rfl]
    have hpaD : zpD pa' (zpL pa') = zpD pa (zpL pa) * ram := by
      rw [hpaL, hpa', zext_DL _ _ _ _ _ _ _ hL1]
    have hpaAk : ∀ k, k ≤ zpL pa → zpA pa' k = zpA pa k := by
      intro k hk
      rw [hpa']
      show (if k = zpL pa + 1 then _ else _) = _
      rw [if_neg (by omega)]
    refine sM_rootOf t i fs fa hP hfs hi hi9 hfr _ ?_
    refine sM_newKnot t T.1.length (zpA pa (zpL pa) : Nat) fa.2.1 ((zpL pa : Int) + 1) hT.2.2.2.1 hk40 (Or.inr ⟨_, rfl, hknl, by rw [(hW.1 (zpL pa) hL1 (Nat.le_refl _)).1]⟩) _ (fun u1 f1 a1 a2 a3 a4 a5 => ?_)
    -- what was there before
    have ho1 : zOld T.1.length (zso (tgw t) (tgi t 0) f T.1) t u1 := by
      refine ⟨fun k hk q hq => ?_, fun q _ => by rw [f1.a 31 (by decide)], fun q _ => by rw [f1.a 35 (by decide)], fun q hq => by rw [a5, zwr_ne (Or.inl hq)], ⟨fun k k1 k2 q _ => by rw [f1.a k (by simp; omega)], fun q _ => by rw [f1.a 42 (by decide)], fun q _ => by rw [f1.a 43 (by decide)]⟩⟩
      rcases hk with rfl | rfl | rfl | rfl | rfl | rfl | rfl | rfl | rfl | rfl
      · rw [a2, zup_ne _ _ (by omega)]
      · rw [a3, zup_ne _ _ (by omega)]
      · rw [a4, zup_ne _ _ (by omega)]
      · rw [f1.a 27 (by decide)]
      · rw [f1.a 28 (by decide)]
      · rw [f1.a 29 (by decide)]
      · rw [f1.a 30 (by decide)]
      · rw [f1.a 32 (by decide)]
      · rw [f1.a 33 (by decide)]
      · rw [f1.a 34 (by decide)]
    have hrec0 := hT.2.2.2.2.2.2 _ _ hx
    have r1 := hrec0.old hknl (zso_take hx) ho1
    have w1 : tgw u1 = tgw t := f1.1.symm
    have p1 := f1.i 0 (by decide)
    have hvb := zvm_bd hg.1 hg.2.1 slope
    have hsl := zsl_u hg.1 hg.2.2 x1 x3 x4
    rw [← hslope] at hsl
    have hsl3 : (zpD pa (zpL pa) : Int) * zpD pa (zpL pa) ≤ 4 * 4 := Int.mul_le_mul (by omega) (by omega) (by omega) (by omega)
    have hvn := zvn_bd hg.1 hg.2.1 (v := slope) (by omega) (by omega) (zpL pa - 1) (by omega)
    have hvm0 : zvm pa slope 0 = zvn pa slope (zpL pa - 1) := by
      unfold zvm
      rw [if_pos rfl]
    refine sM_laysKey u1 pa T.1.length s ram (zvm pa slope) (zroot (tgi t 0) fa) (f1.PR (by decide) (by decide) hP) (hH.moved f1 (by decide) (by decide) (by decide) (by decide) (by decide) (by decide)) r1.2.2.2.1 (by rw [w1]; exact hg.1) hk40 (fun k a b => by have := hanc k a b; omega) hs (by rw [f1.a 39 (by decide)]; exact e39) (by omega) (fun q hq => by rw [f1.a 42 (by decide)]; exact e42 q hq) (by rw [hvm0]; omega) (fun q a b => hvb q a) (by omega) (by rw [p1]; exact hfa.2.2) _ (fun u2 f2 b1 => ?_)
    rw [w1, p1, ← hkey, a5] at b1
    have f12 : zfr [21] [24, 25, 26] [9, 57] t u2 := (f1.mono (by decide) (by decide) (by decide)).trans (f2.mono (by decide) (by decide) (by decide))
    have c39 : tga u2 39 s = (ram : Int) := by rw [f12.a 39 (by decide)]; exact e39
    have c41 : tga u2 41 s = slope := by rw [f12.a 41 (by decide)]; exact e41
    try simp only [zl32, zl64, i32_add, i32_sub, i32_mul, i32_neg, i64_add, i64_sub, i64_mul, i64_neg, cv_gi, cv_gw, cv_ga, cv_gl, cv_pi, cv_pw, cv_pa, cv_pl, zf_S, zf_i, zf_l, mz1, mz2, mz3, mz4, zr_ii, zr_iw, zr_ia, zr_il, zr_wi, zr_ww, zr_wa, zr_wl, zr_ai, zr_aw, zr_aa, zr_al, zr_li, zr_lw, zr_la, zr_ll, zw_ii, zw_ww, zw_aa, zw_ll, reduceIte, Nat.reduceEqDiff, if_true, if_false]
    try simp (disch := omega) only [zi9, zi7, zi40, zi360, zikj, zijd, zi9o, zi7o, zip1, zip, zim1, i32_natN, ziL, zi_0, zi_1]
    rw [c39]
    repeat' (first | (exfalso; omega) | (with_reducible refine zb_in ?_ ?_ ?_ ?_; omega; omega; omega) | (with_reducible refine zb_le ?_ ?_ ?_ ?_ (fun _ => ?_) (fun _ => ?_); omega; omega; omega; omega) | (with_reducible refine zb_lt ?_ ?_ ?_ ?_ (fun _ => ?_) (fun _ => ?_); omega; omega; omega; omega) | (with_reducible refine zb_eq ?_ ?_ ?_ ?_ (fun _ => ?_) (fun _ => ?_); omega; omega; omega; omega) | (with_reducible refine zb_leL ?_ ?_ ?_ ?_ (fun _ => ?_) (fun _ => ?_); omega; omega; omega; omega) | (with_reducible refine zb_ltL ?_ ?_ ?_ ?_ (fun _ => ?_) (fun _ => ?_); omega; omega; omega; omega) | (with_reducible refine zb_eqL ?_ ?_ ?_ ?_ (fun _ => ?_) (fun _ => ?_); omega; omega; omega; omega) | (with_reducible refine zb_nz ?_ ?_ ?_ ?_; omega; omega; omega) | (with_reducible refine zb_nzL ?_ ?_ ?_ ?_; omega; omega; omega) | with_reducible refine zb_ite ?_ | with_reducible refine zb_iteL ?_ | ((with_reducible intro y hy); subst hy; try simp only [zl32, zl64, i32_add, i32_sub, i32_mul, i32_neg, i64_add, i64_sub, i64_mul, i64_neg, cv_gi, cv_gw, cv_ga, cv_gl, cv_pi, cv_pw, cv_pa, cv_pl, zf_S, zf_i, zf_l, mz1, mz2, mz3, mz4, zr_ii, zr_iw, zr_ia, zr_il, zr_wi, zr_ww, zr_wa, zr_wl, zr_ai, zr_aw, zr_aa, zr_al, zr_li, zr_lw, zr_la, zr_ll, zw_ii, zw_ww, zw_aa, zw_ll, reduceIte, Nat.reduceEqDiff, if_true, if_false]) | with_reducible refine zb_o1 ?_ | with_reducible refine zb_o2 ?_ | with_reducible refine zb_o3 ?_ | with_reducible refine zb_o4 ?_ | with_reducible refine zb_tr ?_ | exact trivial | with_reducible refine zb_T ?_ | with_reducible refine zb_sp ?_ ?_)
    rw [c41]
    repeat' (first | (exfalso; omega) | (with_reducible refine zb_in ?_ ?_ ?_ ?_; omega; omega; omega) | (with_reducible refine zb_le ?_ ?_ ?_ ?_ (fun _ => ?_) (fun _ => ?_); omega; omega; omega; omega) | (with_reducible refine zb_lt ?_ ?_ ?_ ?_ (fun _ => ?_) (fun _ => ?_); omega; omega; omega; omega) | (with_reducible refine zb_eq ?_ ?_ ?_ ?_ (fun _ => ?_) (fun _ => ?_); omega; omega; omega; omega) | (with_reducible refine zb_leL ?_ ?_ ?_ ?_ (fun _ => ?_) (fun _ => ?_); omega; omega; omega; omega) | (with_reducible refine zb_ltL ?_ ?_ ?_ ?_ (fun _ => ?_) (fun _ => ?_); omega; omega; omega; omega) | (with_reducible refine zb_eqL ?_ ?_ ?_ ?_ (fun _ => ?_) (fun _ => ?_); omega; omega; omega; omega) | (with_reducible refine zb_nz ?_ ?_ ?_ ?_; omega; omega; omega) | (with_reducible refine zb_nzL ?_ ?_ ?_ ?_; omega; omega; omega) | with_reducible refine zb_ite ?_ | with_reducible refine zb_iteL ?_ | ((with_reducible intro y hy); subst hy; try simp only [zl32, zl64, i32_add, i32_sub, i32_mul, i32_neg, i64_add, i64_sub, i64_mul, i64_neg, cv_gi, cv_gw, cv_ga, cv_gl, cv_pi, cv_pw, cv_pa, cv_pl, zf_S, zf_i, zf_l, mz1, mz2, mz3, mz4, zr_ii, zr_iw, zr_ia, zr_il, zr_wi, zr_ww, zr_wa, zr_wl, zr_ai, zr_aw, zr_aa, zr_al, zr_li, zr_lw, zr_la, zr_ll, zw_ii, zw_ww, zw_aa, zw_ll, reduceIte, Nat.reduceEqDiff, if_true, if_false]) | with_reducible refine zb_o1 ?_ | with_reducible refine zb_o2 ?_ | with_reducible refine zb_o3 ?_ | with_reducible refine zb_o4 ?_ | with_reducible refine zb_tr ?_ | exact trivial | with_reducible refine zb_T ?_ | with_reducible refine zb_sp ?_ ?_)
    obtain ⟨u3, hu3⟩ : ∃ u3, u3 = tsa (tsa (tsa u2 32 (zup (tga u2 32) T.1.length ram)) 33 (zup (tga u2 33) T.1.length slope)) 34 (zup (tga u2 34) T.1.length (zroot (tgi t 0) fa)) := ⟨_, rfl⟩
    have f3 : zfr [21] [24, 25, 26, 32, 33, 34] [9, 57] t u3 := by
      rw [hu3]
      exact zfr_sa (zfr_sa (zfr_sa (f12.mono (by decide) (by decide) (by decide)) (by decide)) (by decide)) (by decide)
    have d42 : tga u3 42 = tga t 42 := f3.a 42 (by decide)
    have d35 : tga u3 35 = tga t 35 := f3.a 35 (by decide)
    have Cp : ∀ r k : Nat, k + r = 7 → wM_takesFactor_l172 Q (i32 s) (i32 T.1.length) (r + 1) (cv (tsa u3 35 (zwr (7 * T.1.length) k (zvm pa slope) (tga t 35)))) (i32 k) := by
      intro r
      induction r with
      | zero =>
        intro k hk
        have hk : k = 7 := by omega
        subst hk
        obtain ⟨u4, hu4⟩ : ∃ u4, u4 = tsa u3 35 (zwr (7 * T.1.length) 7 (zvm pa slope) (tga t 35)) := ⟨_, rfl⟩
        rw [← hu4]
        have f4 : zfr [21] [24, 25, 26, 32, 33, 34, 35] [9, 57] t u4 := by
          rw [hu4]
          exact zfr_sa (f3.mono (by decide) (by decide) (by decide)) (by decide)
        have s24 : tga u4 24 = zup (tga t 24) T.1.length ((zpL pa : Int) + 1) := by rw [hu4, hu3]; show tga u2 24 = _; rw [f2.a 24 (by decide)]; exact a2
        have s25 : tga u4 25 = zup (tga t 25) T.1.length fa.2.1 := by rw [hu4, hu3]; show tga u2 25 = _; rw [f2.a 25 (by decide)]; exact a3
        have s26 : tga u4 26 = zup (tga t 26) T.1.length (zpA pa (zpL pa) : Nat) := by rw [hu4, hu3]; show tga u2 26 = _; rw [f2.a 26 (by decide)]; exact a4
        have s32 : tga u4 32 = zup (tga t 32) T.1.length ram := by rw [hu4, hu3]; show zup (tga u2 32) _ _ = _; rw [f12.a 32 (by decide)]
        have s33 : tga u4 33 = zup (tga t 33) T.1.length slope := by rw [hu4, hu3]; show zup (tga u2 33) _ _ = _; rw [f12.a 33 (by decide)]
        have s34 : tga u4 34 = zup (tga t 34) T.1.length (zroot (tgi t 0) fa) := by rw [hu4, hu3]; show zup (tga u2 34) _ _ = _; rw [f12.a 34 (by decide)]
        have s35 : tga u4 35 = zwr (7 * T.1.length) 7 (zvm pa slope) (tga t 35) := by rw [hu4]; rfl
        have s9 : tgl u4 9 = zwr (9 * T.1.length) 9 key (zwr (9 * T.1.length) 9 (fun _ => 0) (tgl t 9)) := by rw [hu4, hu3]; exact b1
        have ho4 : zOld T.1.length (zso (tgw t) (tgi t 0) f T.1) t u4 := by
          refine ⟨fun k hk q hq => ?_, fun q _ => by rw [f4.a 31 (by decide)], fun q hq => by rw [s35, zwr_ne (Or.inl hq)], fun q hq => by rw [s9, zwr_ne (Or.inl hq), zwr_ne (Or.inl hq)], ⟨fun k k1 k2 q _ => by rw [f4.a k (by simp; omega)], fun q _ => by rw [f4.a 42 (by decide)], fun q _ => by rw [f4.a 43 (by decide)]⟩⟩
          rcases hk with rfl | rfl | rfl | rfl | rfl | rfl | rfl | rfl | rfl | rfl
          · rw [s24, zup_ne _ _ (by omega)]
          · rw [s25, zup_ne _ _ (by omega)]
          · rw [s26, zup_ne _ _ (by omega)]
          · rw [f4.a 27 (by decide)]
          · rw [f4.a 28 (by decide)]
          · rw [f4.a 29 (by decide)]
          · rw [f4.a 30 (by decide)]
          · rw [s32, zup_ne _ _ (by omega)]
          · rw [s33, zup_ne _ _ (by omega)]
          · rw [s34, zup_ne _ _ (by omega)]
        have r4 := hrec0.old hknl (zso_take hx) ho4
        have rk4 : zKy u4 pa := r4.2.2.2.1
        have rw4 : zWy u4 pa := r4.2.2.2.2.1
        have rm4 : zMd u4 pa := r4.2.2.2.2.2.1
        have w4 : tgw u4 = tgw t := f4.1.symm
        have p4 := f4.i 0 (by decide)
        have l4 : tgl u4 19 = f := by rw [f4.l 19 (by decide)]; exact hT.2.2.1
        have k4 : zKy u4 pa' := by
          intro k a b
          rw [hpaL] at b
          by_cases c : k = zpL pa + 1
          · rw [c, ← hpaL, hpaA]
            refine ⟨hk40, fun j hj => ?_⟩
            rw [s9, zwr_at hj, hpa']
            show key j = (if zpL pa + 1 = zpL pa + 1 then key else _) j
            rw [if_pos rfl]
          · rw [hpaAk k (by omega)]
            have := rk4 k a (by omega)
            rw [hpa']
            show _ ∧ ∀ i, i < 9 → _ = (if k = zpL pa + 1 then key else zpK pa k) i
            rw [if_neg c]
            exact this
        have wy4 : zWy u4 pa' := by
          refine ⟨fun k a b => ?_, fun k a b => ?_⟩
          · rw [hpaL] at b
            by_cases c : k = zpL pa + 1
            · rw [c, ← hpaL, hpaA, s24, s26, zup_at, zup_at, hpaL, show zpL pa + 1 - 1 = zpL pa by omega, hpaAk _ (Nat.le_refl _)]
              exact ⟨rfl, fun _ => rfl⟩
            · rw [hpaAk k (by omega), hpaAk (k - 1) (by omega)]
              exact rw4.1 k a (by omega)
          · rw [hpaL] at b
            by_cases c : k = zpL pa
            · rw [c, ← hpaL, hpaA, s32, s33, zup_at, zup_at, hpa']
              show _ = (((if zpL pa = zpL pa then ram else _) : Nat) : Int) ∧ _ = (if zpL pa = zpL pa then slope else _)
              rw [if_pos rfl, if_pos rfl]
              exact ⟨rfl, rfl⟩
            · rw [hpaAk (k + 1) (by omega), hpa']
              show _ = (((if k = zpL pa then ram else zpR pa k) : Nat) : Int) ∧ _ = (if k = zpL pa then slope else zpS pa k)
              rw [if_neg c, if_neg c]
              exact rw4.2 k a (by omega)
        have md4 : zMd u4 pa' := by
          intro k a b
          rw [hpaL] at b
          by_cases c : k = zpL pa
          · rw [c, ← hpaL, hpaA, s34, s35, zup_at, hpa']
            show _ = (if zpL pa = zpL pa then zroot (tgi t 0) fa else zpO pa (zpL pa)) ∧ ∀ q, q < 7 → _ = (if zpL pa = zpL pa then zvm pa slope else zpM pa (zpL pa)) q
            rw [if_pos rfl, if_pos rfl]
            exact ⟨rfl, fun q hq => zwr_at hq⟩
          · rw [hpaAk (k + 1) (by omega), hpa']
            show _ = (if k = zpL pa then zroot (tgi t 0) fa else zpO pa k) ∧ ∀ q, q < 7 → _ = (if k = zpL pa then zvm pa slope else zpM pa k) q
            rw [if_neg c, if_neg c]
            exact rm4 k a (by omega)
        have hhl : (zhull (zpts (tgw t) (tgi t 0) pa' f fa.2.1) fa.2.1).length ≤ 8 := by
          have := (zhull_ok (pts := zpts (tgw t) (tgi t 0) pa' f fa.2.1) (m := fa.2.1)).2
          omega
        rw [wM_takesFactor_l172]
        try simp only [zl32, zl64, i32_add, i32_sub, i32_mul, i32_neg, i64_add, i64_sub, i64_mul, i64_neg, cv_gi, cv_gw, cv_ga, cv_gl, cv_pi, cv_pw, cv_pa, cv_pl, zf_S, zf_i, zf_l, mz1, mz2, mz3, mz4]
        repeat' (first | (exfalso; omega) | (with_reducible refine zb_in ?_ ?_ ?_ ?_; omega; omega; omega) | (with_reducible refine zb_le ?_ ?_ ?_ ?_ (fun _ => ?_) (fun _ => ?_); omega; omega; omega; omega) | (with_reducible refine zb_lt ?_ ?_ ?_ ?_ (fun _ => ?_) (fun _ => ?_); omega; omega; omega; omega) | (with_reducible refine zb_eq ?_ ?_ ?_ ?_ (fun _ => ?_) (fun _ => ?_); omega; omega; omega; omega) | (with_reducible refine zb_leL ?_ ?_ ?_ ?_ (fun _ => ?_) (fun _ => ?_); omega; omega; omega; omega) | (with_reducible refine zb_ltL ?_ ?_ ?_ ?_ (fun _ => ?_) (fun _ => ?_); omega; omega; omega; omega) | (with_reducible refine zb_eqL ?_ ?_ ?_ ?_ (fun _ => ?_) (fun _ => ?_); omega; omega; omega; omega) | (with_reducible refine zb_nz ?_ ?_ ?_ ?_; omega; omega; omega) | (with_reducible refine zb_nzL ?_ ?_ ?_ ?_; omega; omega; omega) | with_reducible refine zb_ite ?_ | with_reducible refine zb_iteL ?_ | ((with_reducible intro y hy); subst hy; try simp only [zl32, zl64, i32_add, i32_sub, i32_mul, i32_neg, i64_add, i64_sub, i64_mul, i64_neg, cv_gi, cv_gw, cv_ga, cv_gl, cv_pi, cv_pw, cv_pa, cv_pl, zf_S, zf_i, zf_l, mz1, mz2, mz3, mz4, zr_ii, zr_iw, zr_ia, zr_il, zr_wi, zr_ww, zr_wa, zr_wl, zr_ai, zr_aw, zr_aa, zr_al, zr_li, zr_lw, zr_la, zr_ll, zw_ii, zw_ww, zw_aa, zw_ll, reduceIte, Nat.reduceEqDiff, if_true, if_false]) | with_reducible refine zb_o1 ?_ | with_reducible refine zb_o2 ?_ | with_reducible refine zb_o3 ?_ | with_reducible refine zb_o4 ?_ | with_reducible refine zb_tr ?_ | exact trivial | with_reducible refine zb_T ?_ | with_reducible refine zb_sp ?_ ?_)
        rw [← hpaA]
        refine sM_goesInto u4 pa' fa.2.1 (zso (tgw t) (tgi t 0) f T.1) (zpL pa) T.2 ht8 (f4.PR (by decide) (by decide) hP) k4 md4 wy4 (by rw [w4]; exact gd.1) (by rw [p4]; exact gd.2.1) (by rw [w4, l4]; exact hT.2.1) (by rw [hpaA, s25]; exact zup_at _ _ _) (by rw [f4.i 22 (by decide)]; exact hT.2.2.2.2.1) (by rw [w4, p4, l4]; omega) (hls.moved f4 (by decide) (by decide) (by decide) (by decide) (by decide) (by decide)) hl (by rw [f4.i 61 (by decide)]; exact h61) (by omega) _ (fun v f5 v22 vK vS vk vL v61 v58 v59 v60 => ?_)
        rw [w4, p4, l4] at v22 vK vL
        have ftv : zfr [21, 22, 23, 49, 56, 61] [24, 25, 26, 27, 28, 29, 30, 31, 32, 33, 34, 35, 36, 37, 38, 39, 40, 41, 42, 43, 44, 45, 46, 47, 48, 50, 51, 52, 53, 54, 55, 58, 59, 60] [8, 9, 57] t v := (f4.mono (by decide) (by decide) (by decide)).trans (f5.mono (by decide) (by decide) (by decide))
        have hov : zOld T.1.length (zso (tgw t) (tgi t 0) f T.1) u4 v := by
          refine ⟨fun k hk q hq => ?_, fun q hq => vk.2 q (Or.inl (by rw [hpaA]; exact hq)), fun q _ => by rw [f5.a 35 (by decide)], fun q _ => by rw [f5.l 9 (by decide)], vS⟩
          rcases hk with rfl | rfl | rfl | rfl | rfl | rfl | rfl | rfl | rfl | rfl
          · rw [f5.a 24 (by decide)]
          · rw [f5.a 25 (by decide)]
          · rw [f5.a 26 (by decide)]
          · exact vk.1 27 (by omega) q (by omega)
          · exact vk.1 28 (by omega) q (by omega)
          · exact vk.1 29 (by omega) q (by omega)
          · exact vk.1 30 (by omega) q (by omega)
          · rw [f5.a 32 (by decide)]
          · rw [f5.a 33 (by decide)]
          · rw [f5.a 34 (by decide)]
        refine hkn hno v pa' (by rw [hpa', hkey]) gd ht2 ht8 (by rw [hpaD]; exact hw2) ftv ?_ v61 (by rw [v58, f4.a 58 (by decide), hpaA]) (by rw [v59, f4.a 59 (by decide)]) (by rw [v60, f4.a 60 (by decide)])
        refine hT.push (ho4.trans hov) (ftv.PR (by decide) (by decide) hP) ftv.1.symm (ftv.i 0 (by decide)) (ftv.l 19 (by decide)) (by rw [f5.i 21 (by decide), hu4, hu3]; show tgi u2 21 = _; rw [f2.i 21 (by decide)]; exact a1) v22 vL ?_
        refine ⟨hpaA, ⟨ht2, ht8⟩, fun k a b => ?_, k4.moved f5 (by decide), wy4.moved f5 (by decide) (by decide) (by decide) (by decide), md4.moved f5 (by decide) (by decide), vK, fun q => ?_, gd⟩
        · have b : k ≤ zpL pa' := b
          rw [hpaL] at b
          show zpA pa' k ≤ _
          by_cases c : k = zpL pa + 1
          · rw [c, ← hpaL, hpaA]
            exact Nat.le_refl _
          · rw [hpaAk k (by omega)]
            have := hanc k a (by omega)
            omega
        · have q : zpL pa' = 1 := q
          omega
      | succ r ih =>
        intro k hk
        have e := ih (k + 1) (by omega)
        rw [← zwr_s] at e
        rw [wM_takesFactor_l172]
        try simp only [zl32, zl64, i32_add, i32_sub, i32_mul, i32_neg, i64_add, i64_sub, i64_mul, i64_neg, cv_gi, cv_gw, cv_ga, cv_gl, cv_pi, cv_pw, cv_pa, cv_pl, zf_S, zf_i, zf_l, mz1, mz2, mz3, mz4, zr_ii, zr_iw, zr_ia, zr_il, zr_wi, zr_ww, zr_wa, zr_wl, zr_ai, zr_aw, zr_aa, zr_al, zr_li, zr_lw, zr_la, zr_ll, zw_ii, zw_ww, zw_aa, zw_ll, reduceIte, Nat.reduceEqDiff, if_true, if_false]
        try simp (disch := omega) only [zi9, zi7, zi40, zi360, zikj, zijd, zi9o, zi7o, zip1, zip, zim1, i32_natN, ziL, zi_0, zi_1]
        rw [d42, e42 k (by omega)]
        repeat' (first | (exfalso; omega) | (with_reducible refine zb_in ?_ ?_ ?_ ?_; omega; omega; omega) | (with_reducible refine zb_le ?_ ?_ ?_ ?_ (fun _ => ?_) (fun _ => ?_); omega; omega; omega; omega) | (with_reducible refine zb_lt ?_ ?_ ?_ ?_ (fun _ => ?_) (fun _ => ?_); omega; omega; omega; omega) | (with_reducible refine zb_eq ?_ ?_ ?_ ?_ (fun _ => ?_) (fun _ => ?_); omega; omega; omega; omega) | (with_reducible refine zb_leL ?_ ?_ ?_ ?_ (fun _ => ?_) (fun _ => ?_); omega; omega; omega; omega) | (with_reducible refine zb_ltL ?_ ?_ ?_ ?_ (fun _ => ?_) (fun _ => ?_); omega; omega; omega; omega) | (with_reducible refine zb_eqL ?_ ?_ ?_ ?_ (fun _ => ?_) (fun _ => ?_); omega; omega; omega; omega) | (with_reducible refine zb_nz ?_ ?_ ?_ ?_; omega; omega; omega) | (with_reducible refine zb_nzL ?_ ?_ ?_ ?_; omega; omega; omega) | with_reducible refine zb_ite ?_ | with_reducible refine zb_iteL ?_ | ((with_reducible intro y hy); subst hy; try simp only [zl32, zl64, i32_add, i32_sub, i32_mul, i32_neg, i64_add, i64_sub, i64_mul, i64_neg, cv_gi, cv_gw, cv_ga, cv_gl, cv_pi, cv_pw, cv_pa, cv_pl, zf_S, zf_i, zf_l, mz1, mz2, mz3, mz4, zr_ii, zr_iw, zr_ia, zr_il, zr_wi, zr_ww, zr_wa, zr_wl, zr_ai, zr_aw, zr_aa, zr_al, zr_li, zr_lw, zr_la, zr_ll, zw_ii, zw_ww, zw_aa, zw_ll, reduceIte, Nat.reduceEqDiff, if_true, if_false]) | with_reducible refine zb_o1 ?_ | with_reducible refine zb_o2 ?_ | with_reducible refine zb_o3 ?_ | with_reducible refine zb_o4 ?_ | with_reducible refine zb_tr ?_ | exact trivial | with_reducible refine zb_T ?_ | with_reducible refine zb_sp ?_ ?_)
        exact e
    have e := Cp 7 0 rfl
    rw [zwr_0, ← d35, zw_a0, hu3] at e
    exact ⟨8, e⟩
  · -- hard
    rw [if_neg (by omega), if_pos (by omega)] at hlf
    refine sM_addsLeaf t T.2 _ _ _ _ _ hls hl _ (fun u f1 f2 => hlf (Or.inr (Or.inl (by omega))) u f1 ?_)
    rw [Int.natCast_mul]
    exact leaf _ u f1 f2
