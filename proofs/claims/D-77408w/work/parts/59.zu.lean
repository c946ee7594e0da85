/-! PURE 30: the model grows what is below a knot -/
set_option maxRecDepth 100000
def zCap (M p : Int) (f : Nat → Int) (b d : Nat) (T : zT) : Prop := 2 * T.1.length + b * d ≤ 48 ∧ zso M p f T.1 + b * d ≤ 48 ∧ T.2.length + b ≤ 8
theorem zCap.next {M p : Int} {f : Nat → Int} {b c d : Nat} {T T' : zT} (h : zCap M p f (b + c) d T) (hb : zBd M p f b d T T') : zCap M p f c d T' := by
  obtain ⟨h1, h2, h3⟩ := h
  obtain ⟨b1, b2, b3⟩ := hb
  rw [Nat.add_mul] at h1 h2
  exact ⟨by omega, by omega, by omega⟩
theorem zCap.mono {M p : Int} {f : Nat → Int} {b c d : Nat} {T : zT} (h : zCap M p f b d T) (hc : c ≤ b) : zCap M p f c d T := by
  obtain ⟨h1, h2, h3⟩ := h
  have := Nat.mul_le_mul_right d hc
  exact ⟨by omega, by omega, by omega⟩
/-- the state: prime, modulus, the tree so far, what growing leaves alone since t0 -/
def zQ (t0 : tS) (M p : Int) (f : Nat → Int) (T : zT) (u : tS) : Prop := tgw u = M ∧ tgi u 0 = p ∧ zTR u f T ∧ zGr t0 u
theorem zGr.of {t v : tS} {ki ka kl : List Nat} (h : zfr ki ka kl t v) (h1 : ∀ k, k ∈ ki → k ∈ [11, 12, 21, 22, 23, 49, 56, 61]) (h2 : ∀ k, k ∈ ka → k ∈ [10, 13, 14, 15, 16, 17, 24, 25, 26, 27, 28, 29, 30, 31, 32, 33, 34, 35, 36, 37, 38, 39, 40, 41, 42, 43, 44, 45, 46, 47, 48, 49, 50, 51, 52, 53, 54, 55, 58, 59, 60]) (h3 : ∀ k, k ∈ kl → k ∈ [8, 9, 57]) : zGr t v := h.mono h1 h2 h3
/-- one step with a side at hand -/
theorem sM_step_side (t : tS) (f : Nat → Int) (T : zT) (pa : zP) (m j i : Nat) (x : Nat × Nat) (G : zP → Nat → zT → zT) (hT : zTR t f T) (hx : T.1[zpA pa (zpL pa)]? = some (pa, m)) (hst : zStk t (zpL pa) (zpA pa (zpL pa)) j i) (hme : m * zpD pa (zpL pa) ≤ 8) (hj : (zhull (zpts (tgw t) (tgi t 0) pa f m) m)[j]? = some x) (hS : zso (tgw t) (tgi t 0) f T.1 ≤ 48) (hl : T.2.length ≤ 8) (hk : T.1.length ≤ 24) (hi : i ≤ (zFc (tgi t 0) (zside (tgw t) (tgi t 0) pa f (zpts (tgw t) (tgi t 0) pa f m) x).2.2.2.2.2.2.2).length) (Q : mS → Prop)
    (he : i = (zFc (tgi t 0) (zside (tgw t) (tgi t 0) pa f (zpts (tgw t) (tgi t 0) pa f m) x).2.2.2.2.2.2.2).length → ∀ w, zGr t w → tgw w = tgw t → tgi w 0 = tgi t 0 → zTR w f T → zStk w (zpL pa) (zpA pa (zpL pa)) (j + 1) 0 → zLow (zpL pa) t w → Q (cv w))
    (hlf : ∀ fa, (zFc (tgi t 0) (zside (tgw t) (tgi t 0) pa f (zpts (tgw t) (tgi t 0) pa f m) x).2.2.2.2.2.2.2)[i]? = some fa → (fa.2.1 = 1 ∨ 1 < fa.1 ∨ zpL pa = 6) → ∀ w, zGr t w → tgw w = tgw t → tgi w 0 = tgi t 0 → zTR w f (zch G (tgw t) (tgi t 0) pa (zside (tgw t) (tgi t 0) pa f (zpts (tgw t) (tgi t 0) pa f m) x) T fa) → zStk w (zpL pa) (zpA pa (zpL pa)) j (i + 1) → zLow (zpL pa) t w → Q (cv w))
    (hkn : ∀ fa, (zFc (tgi t 0) (zside (tgw t) (tgi t 0) pa f (zpts (tgw t) (tgi t 0) pa f m) x).2.2.2.2.2.2.2)[i]? = some fa → ¬ (fa.2.1 = 1 ∨ 1 < fa.1 ∨ zpL pa = 6) → ∀ w pa', pa' = zext pa T.1.length (znk (tgw t) (tgi t 0) pa (zrm (zpts (tgw t) (tgi t 0) pa f m) x.1 x.2) (zvm pa (zsl pa (zpts (tgw t) (tgi t 0) pa f m) x.1 x.2)) (zroot (tgi t 0) fa)) (zrm (zpts (tgw t) (tgi t 0) pa f m) x.1 x.2) (zsl pa (zpts (tgw t) (tgi t 0) pa f m) x.1 x.2) (zroot (tgi t 0) fa) (zvm pa (zsl pa (zpts (tgw t) (tgi t 0) pa f m) x.1 x.2)) → zGood (tgw t) (tgi t 0) pa' → 2 ≤ fa.2.1 → fa.2.1 ≤ 8 → fa.2.1 * zpD pa' (zpL pa') ≤ 8 → zGr t w → tgw w = tgw t → tgi w 0 = tgi t 0 → zTR w f (zst0 (tgw t) (tgi t 0) f pa' fa.2.1 T) → zStk w (zpL pa + 1) T.1.length 0 0 → zStk w (zpL pa) (zpA pa (zpL pa)) j (i + 1) ∨ tgi w 61 = (zpL pa : Int) + 1 ∧ tga w 58 (zpL pa) = (zpA pa (zpL pa) : Int) ∧ tga w 59 (zpL pa) = (j : Int) ∧ tga w 60 (zpL pa) = (i : Int) + 1 → zLow (zpL pa) t w → Q (cv w)) : wM_steps (cv t) Q := by
  obtain ⟨hK, hW, hM, hg, hm28, hanc, hknl, hKn⟩ := hT.at hx
  have hP := hT.1
  have hwd := hP.w
  have hp := hP.p
  have hL6 := hg.1.2.1
  have hL1 := hg.1.1
  have hst' := hst
  obtain ⟨s1, s2, s3, s4⟩ := hst
  obtain ⟨n1, n2, n3, n4, n5, n6, n7⟩ := hKn
  have hxm : x ∈ zhull (zpts (tgw t) (tgi t 0) pa f m) m := List.mem_of_getElem? hj
  have hsf := zSf_of x hxm
  obtain ⟨r1, r2, r3, r4⟩ := zfac_ok hP.pr (by omega) hwd.2 hg hT.2.1 hm28.2 hsf
  have hjl := (List.getElem?_eq_some_iff.mp hj).1
  have hst2 := zso_take (M := tgw t) (p := tgi t 0) (f := f) hx
  have hhl := (zhull_ok (pts := zpts (tgw t) (tgi t 0) pa f m) (m := m)).2
  have hln : (zFc (tgi t 0) (zside (tgw t) (tgi t 0) pa f (zpts (tgw t) (tgi t 0) pa f m) x).2.2.2.2.2.2.2).length ≤ 8 := by
    have a := zsum_len _ (zFc_fok (tgi t 0) (zside (tgw t) (tgi t 0) pa f (zpts (tgw t) (tgi t 0) pa f m) x).2.2.2.2.2.2.2)
    have b := (zgd_ok hsf.1 hsf.2.2.2).2.1
    have c := hsf.2.1
    omega
  obtain ⟨S, hSd⟩ : ∃ S, S = zso (tgw t) (tgi t 0) f (T.1.take (zpA pa (zpL pa))) := ⟨_, rfl⟩
  rw [← hSd] at n4 n7 hst2
  have hst2 : S + (zhull (zpts (tgw t) (tgi t 0) pa f m) m).length ≤ zso (tgw t) (tgi t 0) f T.1 := hst2
  have hsa := n7 j x hj
  have h43 : ∀ k, k < 9 → tga t 43 (9 * (S + j) + k) = (zside (tgw t) (tgi t 0) pa f (zpts (tgw t) (tgi t 0) pa f m) x).2.2.2.2.2.2.2 k := hsa.2.2.2.2.2.2.2
  unfold wM_steps wM_steps_j46
  try simp only [zl32, zl64, i32_add, i32_sub, i32_mul, i32_neg, i64_add, i64_sub, i64_mul, i64_neg, cv_gi, cv_gw, cv_ga, cv_gl, cv_pi, cv_pw, cv_pa, cv_pl, zf_S, zf_i, zf_l, mz1, mz2, mz3, mz4, zr_ii, zr_iw, zr_ia, zr_il, zr_wi, zr_ww, zr_wa, zr_wl, zr_ai, zr_aw, zr_aa, zr_al, zr_li, zr_lw, zr_la, zr_ll, zw_ii, zw_ww, zw_aa, zw_ll, reduceIte, Nat.reduceEqDiff, if_true, if_false]
  rw [s1]
  try simp (disch := omega) only [zi9, zi7, zi40, zi360, zikj, zijd, zi9o, zi7o, zip1, zip, zim1, i32_natN, ziL, zi_0, zi_1]
  rw [s2]
  try simp (disch := omega) only [zi9, zi7, zi40, zi360, zikj, zijd, zi9o, zi7o, zip1, zip, zim1, i32_natN, ziL, zi_0, zi_1]
  rw [s3, n5, n4]
  repeat' (first | (exfalso; omega) | (with_reducible refine zb_in ?_ ?_ ?_ ?_; omega; omega; omega) | (with_reducible refine zb_le ?_ ?_ ?_ ?_ (fun _ => ?_) (fun _ => ?_); omega; omega; omega; omega) | (with_reducible refine zb_lt ?_ ?_ ?_ ?_ (fun _ => ?_) (fun _ => ?_); omega; omega; omega; omega) | (with_reducible refine zb_eq ?_ ?_ ?_ ?_ (fun _ => ?_) (fun _ => ?_); omega; omega; omega; omega) | (with_reducible refine zb_leL ?_ ?_ ?_ ?_ (fun _ => ?_) (fun _ => ?_); omega; omega; omega; omega) | (with_reducible refine zb_ltL ?_ ?_ ?_ ?_ (fun _ => ?_) (fun _ => ?_); omega; omega; omega; omega) | (with_reducible refine zb_eqL ?_ ?_ ?_ ?_ (fun _ => ?_) (fun _ => ?_); omega; omega; omega; omega) | (with_reducible refine zb_nz ?_ ?_ ?_ ?_; omega; omega; omega) | (with_reducible refine zb_nzL ?_ ?_ ?_ ?_; omega; omega; omega) | with_reducible refine zb_ite ?_ | with_reducible refine zb_iteL ?_ | ((with_reducible intro y hy); subst hy; try simp only [zl32, zl64, i32_add, i32_sub, i32_mul, i32_neg, i64_add, i64_sub, i64_mul, i64_neg, cv_gi, cv_gw, cv_ga, cv_gl, cv_pi, cv_pw, cv_pa, cv_pl, zf_S, zf_i, zf_l, mz1, mz2, mz3, mz4, zr_ii, zr_iw, zr_ia, zr_il, zr_wi, zr_ww, zr_wa, zr_wl, zr_ai, zr_aw, zr_aa, zr_al, zr_li, zr_lw, zr_la, zr_ll, zw_ii, zw_ww, zw_aa, zw_ll, reduceIte, Nat.reduceEqDiff, if_true, if_false]) | with_reducible refine zb_o1 ?_ | with_reducible refine zb_o2 ?_ | with_reducible refine zb_o3 ?_ | with_reducible refine zb_o4 ?_ | with_reducible refine zb_tr ?_ | exact trivial | with_reducible refine zb_T ?_ | with_reducible refine zb_sp ?_ ?_)
  rw [show ((S : Int) + (j : Int)) = ((S + j : Nat) : Int) by omega]
  refine sM_steps_l76 t (zpA pa (zpL pa)) (S + j) (zpL pa) j i _ hP hst' (by omega) (by omega) (by omega) (fun _ => h43) (fun q => by omega) r1 r2 (by omega) Q (fun v f1 e1 w f2 w59 w60 w61 => ?_) (fun v f1 f2 e1 w hw => ⟨fun q => by omega, fun _ => ?_⟩)
  · -- no factor is left
    have ftw : zfr [11, 12, 61] [10, 13, 14, 15, 16, 17, 59, 60] [] t w := (f1.mono (by decide) (by decide) (by decide)).trans (f2.mono (by decide) (by decide) (by decide))
    rw [if_neg (by omega)] at w61
    refine he e1 w (zGr.of ftw (by decide) (by decide) (by decide)) ftw.1.symm (ftw.i 0 (by decide)) (hT.moved ftw (by decide) (by decide) (by decide) (by decide) (by decide) (fun k a b => by simp; omega) (by decide) (by decide)) ⟨w61, by rw [ftw.a 58 (by decide)]; exact s2, by rw [w59, zup_at]; omega, by rw [w60, zup_at]; rfl⟩ (fun q hq => ⟨by rw [ftw.a 58 (by decide)], by rw [w59, zup_ne _ _ (by omega)], by rw [w60, zup_ne _ _ (by omega)]⟩)
  · -- the next factor
    have hil : i < (zFc (tgi t 0) (zside (tgw t) (tgi t 0) pa f (zpts (tgw t) (tgi t 0) pa f m) x).2.2.2.2.2.2.2).length := by omega
    obtain ⟨fa, hfa⟩ : ∃ fa, (zFc (tgi t 0) (zside (tgw t) (tgi t 0) pa f (zpts (tgw t) (tgi t 0) pa f m) x).2.2.2.2.2.2.2)[i]? = some fa := ⟨_, List.getElem?_eq_getElem hil⟩
    have hfam := List.mem_of_getElem? hfa
    have hfac := r4 fa hfam
    have hfr := zFc_rng hP.pr r1 fa hfam
    have ftw : zfr [11, 12] [10, 13, 14, 15, 16, 17, 60] [] t w := by
      rw [hw]
      exact zfr_sa (f1.mono (by decide) (by decide) (by decide)) (by decide)
    have tw : zTR w f T := hT.moved ftw (by decide) (by decide) (by decide) (by decide) (by decide) (fun k a b => by simp; omega) (by decide) (by decide)
    have fw : zFA w (zFc (tgi t 0) (zside (tgw t) (tgi t 0) pa f (zpts (tgw t) (tgi t 0) pa f m) x).2.2.2.2.2.2.2) := by rw [hw]; exact f2
    have ww : tgw w = tgw t := ftw.1.symm
    have pw := ftw.i 0 (by decide)
    obtain ⟨hKw, hWw, hMw, hgw, -, -, -, -⟩ := tw.at hx
    refine sM_takesKnot w pa hgw.1 hKw hWw _ (fun u f3 H3 => ?_)
    have ftu : zfr [11, 12, 49] [10, 13, 14, 15, 16, 17, 50, 51, 52, 53, 54, 60] [] t u := (ftw.mono (by decide) (by decide) (by decide)).trans (f3.mono (by decide) (by decide) (by decide))
    have tu : zTR u f T := hT.moved ftu (by decide) (by decide) (by decide) (by decide) (by decide) (fun k a b => by simp; omega) (by decide) (by decide)
    have wu : tgw u = tgw t := ftu.1.symm
    have pu := ftu.i 0 (by decide)
    have u60 : tga u 60 = zup (tga t 60) (zpL pa) ((i : Int) + 1) := by rw [f3.a 60 (by decide), hw, zr_aa, if_pos rfl, f1.a 60 (by decide)]
    have hfb : fa.1 * fa.2.1 ≤ zgd (zpts (tgw t) (tgi t 0) pa f m) x.1 x.2 := by
      have : ∀ (l : List zF), fa ∈ l → fa.1 * fa.2.1 ≤ zsum l := by
        intro l
        induction l with
        | nil => intro q; cases q
        | cons y ys ih =>
          intro q
          show _ ≤ y.1 * y.2.1 + zsum ys
          rcases List.mem_cons.mp q with rfl | q
          · omega
          · have := ih q
            omega
      exact Nat.le_trans (this _ hfam) r3
    refine sM_takesFactor u pa m (S + j) i f T x _ fa G tu hx H3 hme (by rw [wu, pu]; exact hsf) ?_ (by omega) (fw.moved (f3.i 12 (by decide)) (f3.a 13 (by decide)) (f3.a 14 (by decide)) (f3.a 15 (by decide))) hfa (by omega) (by rw [pu]; exact hfac) (by rw [pu]; exact hfr) (by rw [wu, pu]; exact hfb) (by omega) (by omega) (by rw [ftu.i 61 (by decide)]; exact s1) (by rw [wu, pu]; omega) Q (fun hc v f4 tv => ?_) (fun hc v pa' hpa' gd t2 t8 tb f4 tv v61 v58 v59 v60 => ?_)
    · rw [wu, pu]
      obtain ⟨a1, a2, a3, a4, a5, a6, a7, a8⟩ := hsa
      exact ⟨by rw [ftu.a 36 (by decide)]; exact a1, by rw [ftu.a 37 (by decide)]; exact a2, by rw [ftu.a 38 (by decide)]; exact a3, by rw [ftu.a 40 (by decide)]; exact a4, by rw [ftu.a 39 (by decide)]; exact a5, by rw [ftu.a 41 (by decide)]; exact a6, fun q hq => by rw [ftu.a 42 (by decide)]; exact a7 q hq, fun q hq => by rw [ftu.a 43 (by decide)]; exact a8 q hq⟩
    · rw [wu, pu] at tv
      have ftv : zfr [11, 12, 23, 49] [10, 13, 14, 15, 16, 17, 44, 45, 46, 47, 48, 50, 51, 52, 53, 54, 60] [] t v := (ftu.mono (by decide) (by decide) (by decide)).trans (f4.mono (by decide) (by decide) (by decide))
      have v60 : tga v 60 = zup (tga t 60) (zpL pa) ((i : Int) + 1) := by rw [f4.a 60 (by decide)]; exact u60
      exact hlf fa hfa hc v (zGr.of ftv (by decide) (by decide) (by decide)) ftv.1.symm (ftv.i 0 (by decide)) tv ⟨by rw [ftv.i 61 (by decide)]; exact s1, by rw [ftv.a 58 (by decide)]; exact s2, by rw [ftv.a 59 (by decide)]; exact s3, by rw [v60, zup_at]; omega⟩ (fun q hq => ⟨by rw [ftv.a 58 (by decide)], by rw [ftv.a 59 (by decide)], by rw [v60, zup_ne _ _ (by omega)]⟩)
    · rw [wu, pu] at tv hpa' gd
      have ftv : zGr t v := zGr.trans (zGr.of ftu (by decide) (by decide) (by decide)) (zGr.of f4 (by decide) (by decide) (by decide))
      rw [u60] at v60
      rw [ftu.a 58 (by decide)] at v58
      rw [ftu.a 59 (by decide)] at v59
      refine hkn fa hfa hc v pa' hpa' gd t2 t8 tb ftv ftv.1.symm (ftv.i 0 (by decide)) tv ⟨by rw [v61]; omega, by rw [v58, zup_at], by rw [v59, zup_at]; rfl, by rw [v60, zup_at]; rfl⟩ (Or.inr ⟨v61, by rw [v58, zup_ne _ _ (by omega)]; exact s2, by rw [v59, zup_ne _ _ (by omega)]; exact s3, by rw [v60, zup_ne _ _ (by omega), zup_at]⟩) (fun q hq => ⟨by rw [v58, zup_ne _ _ (by omega)], by rw [v59, zup_ne _ _ (by omega)], by rw [v60, zup_ne _ _ (by omega), zup_ne _ _ (by omega)]⟩)
