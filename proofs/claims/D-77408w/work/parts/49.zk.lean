/-! PURE 20: a knot is laid: points, what has no side, sides -/
set_option maxRecDepth 100000
def zleaf0 (pa : zP) (z : Nat) (kn : Nat) : List zL := if 1 < z then [(4, 0, 0, (z : Int) * (zpD pa (zpL pa) : Nat), (kn : Int))] else if z = 1 then [(1, (zpD pa (zpL pa) : Nat), 1, (zpD pa (zpL pa) : Nat), (kn : Int))] else []
theorem zfst_none {pts : Nat → Int} {m : Nat} (h : pts (zfst pts m) < 0) : zfst pts m = m := by
  have S : ∀ c, pts (zzs pts m c) < 0 → zzs pts m c = m := by
    intro c
    induction c with
    | zero => intro _; rfl
    | succ c ih =>
      intro h
      unfold zzs at h ⊢
      by_cases c1 : pts (m - c) < 0
      · rw [if_pos c1] at h ⊢
        exact ih h
      · rw [if_neg c1] at h ⊢
        exact absurd h c1
  exact S _ h
/-- all that a laid knot's arrays say -/
def zKn (t : tS) (pa : zP) (m S : Nat) (M p : Int) (f : Nat → Int) : Prop :=
  tga t 25 (zpA pa (zpL pa)) = (m : Int) ∧ tga t 29 (zpA pa (zpL pa)) = (zfst (zpts M p pa f m) m : Int) ∧ (∀ i, i < 9 → tga t 31 (9 * zpA pa (zpL pa) + i) = zpts M p pa f m i) ∧ tga t 27 (zpA pa (zpL pa)) = (S : Int) ∧ tga t 28 (zpA pa (zpL pa)) = ((zhull (zpts M p pa f m) m).length : Int) ∧ tga t 30 (zpA pa (zpL pa)) = zindex (zpts M p pa f m) m ∧ ∀ (j : Nat) (x : Nat × Nat), (zhull (zpts M p pa f m) m)[j]? = some x → zSA t (S + j) (zside M p pa f (zpts M p pa f m) x)
/-- other knots' rows are as they were -/
def zKk (t u : tS) (kn : Nat) : Prop := (∀ k, k = 27 ∨ k = 28 ∨ k = 29 ∨ k = 30 → ∀ q, q ≠ kn → tga u k q = tga t k q) ∧ ∀ q, q < 9 * kn ∨ 9 * kn + 9 ≤ q → tga u 31 q = tga t 31 q
theorem sM_laysKnot (t : tS) (pa : zP) (m S : Nat) (ls : List zL) (hm8 : m ≤ 8) (hP : zPR t) (hK : zKy t pa) (hM : zMd t pa) (hW : zWy t pa) (hv : zPv (tgw t) pa) (hw : zPw (tgi t 0) pa) (hits : zred (tgw t) 9 (tgl t 19)) (hm : tga t 25 (zpA pa (zpL pa)) = (m : Int)) (hS : tgi t 22 = (S : Int)) (hlen : S + (zhull (zpts (tgw t) (tgi t 0) pa (tgl t 19) m) m).length ≤ 64) (hls : zLA t ls) (hl : ls.length < 20) (Q : mS → Prop)
    (h : ∀ v, zfr [22, 23, 49, 56] [27, 28, 29, 30, 31, 36, 37, 38, 39, 40, 41, 42, 43, 44, 45, 46, 47, 48, 50, 51, 52, 53, 54, 55] [8] t v → zHd v pa → tgi v 22 = ((S + (zhull (zpts (tgw t) (tgi t 0) pa (tgl t 19) m) m).length : Nat) : Int) → zKn v pa m S (tgw t) (tgi t 0) (tgl t 19) → zSk t v S → zKk t v (zpA pa (zpL pa)) → zLA v (ls ++ zleaf0 pa (zfst (zpts (tgw t) (tgi t 0) pa (tgl t 19) m) m) (zpA pa (zpL pa))) → Q (cv v)) : wM_laysKnot (cv t) (i32 (zpA pa (zpL pa))) Q := by
  have hL6 := hv.2.1
  have hL1 := hv.1
  have hkn := (hK (zpL pa) hL1 (Nat.le_refl _)).1
  have hDL := hv.D (k := zpL pa) hL1 (Nat.le_refl _)
  obtain ⟨pts, hpts⟩ : ∃ pts, pts = zpts (tgw t) (tgi t 0) pa (tgl t 19) m := ⟨_, rfl⟩
  rw [← hpts] at hlen h
  have hzle : zfst pts m ≤ m := zzs_le pts m (m + 1)
  unfold wM_laysKnot
  refine sM_takesKnot t pa hv hK hW _ (fun u1 f1 H1 => ?_)
  have w1 : tgw u1 = tgw t := f1.1.symm
  have p1 := f1.i 0 (by decide)
  have l1 : tgl u1 19 = tgl t 19 := f1.l 19 (by decide)
  refine sM_laysPoints u1 pa m (f1.PR (by decide) (by decide) hP) H1 (hK.moved f1 (by decide)) (by rw [w1]; exact hv) (by rw [w1, l1]; exact hits) (by rw [f1.a 25 (by decide)]; exact hm) hm8 _ (fun u2 f2 a29 a31 => ?_)
  rw [w1, p1, l1, ← hpts] at a29 a31
  have f2' : zfr [22, 23, 49, 56] [27, 28, 29, 30, 31, 36, 37, 38, 39, 40, 41, 42, 43, 44, 45, 46, 47, 48, 50, 51, 52, 53, 54, 55] [8] t u2 := (f1.mono (by decide) (by decide) (by decide)).trans (f2.mono (by decide) (by decide) (by decide))
  have H2 : zHd u2 pa := H1.moved f2 (by decide) (by decide) (by decide) (by decide) (by decide) (by decide)
  have b29 : tga u2 29 (zpA pa (zpL pa)) = (zfst pts m : Int) := by
    rw [a29]
    exact zup_at _ _ _
  have h49 := H2.1
  have h51 := (H2.2.1 (zpL pa) hL1 (Nat.le_refl _)).1
  -- the rest, whatever leaf there was
  have R : ∀ u3, zfr [23] [44, 45, 46, 47, 48] [] u2 u3 → zLA u3 (ls ++ zleaf0 pa (zfst pts m) (zpA pa (zpL pa))) → wM_laysKnot_j60 Q (cv u3) (i32 (zpA pa (zpL pa))) := by
    intro u3 f3 q3
    have f3' : zfr [22, 23, 49, 56] [27, 28, 29, 30, 31, 36, 37, 38, 39, 40, 41, 42, 43, 44, 45, 46, 47, 48, 50, 51, 52, 53, 54, 55] [8] t u3 := f2'.trans (f3.mono (by decide) (by decide) (by decide))
    have w3 : tgw u3 = tgw t := f3'.1.symm
    have p3 := f3'.i 0 (by decide)
    have l3 : tgl u3 19 = tgl t 19 := f3'.l 19 (by decide)
    have H3 : zHd u3 pa := H2.moved f3 (by decide) (by decide) (by decide) (by decide) (by decide) (by decide)
    have e31 : tga u3 31 = zwr (9 * zpA pa (zpL pa)) 9 pts (tga t 31) := by
      rw [f3.a 31 (by decide), a31, f1.a 31 (by decide)]
    have e29 : tga u3 29 = zup (tga t 29) (zpA pa (zpL pa)) (zfst pts m) := by
      rw [f3.a 29 (by decide), a29, f1.a 29 (by decide)]
    have e27 : tga u3 27 = tga t 27 := by rw [f3.a 27 (by decide), f2.a 27 (by decide), f1.a 27 (by decide)]
    have e28 : tga u3 28 = tga t 28 := by rw [f3.a 28 (by decide), f2.a 28 (by decide), f1.a 28 (by decide)]
    have e30 : tga u3 30 = tga t 30 := by rw [f3.a 30 (by decide), f2.a 30 (by decide), f1.a 30 (by decide)]
    have hsk3 : zSk t u3 S := by
      refine ⟨fun k k1 k2 q _ => ?_, fun q _ => ?_, fun q _ => ?_⟩
      · have : k = 36 ∨ k = 37 ∨ k = 38 ∨ k = 39 ∨ k = 40 ∨ k = 41 := by omega
        rcases this with rfl | rfl | rfl | rfl | rfl | rfl <;> rw [f3.a _ (by decide), f2.a _ (by decide), f1.a _ (by decide)]
      · rw [f3.a _ (by decide), f2.a _ (by decide), f1.a _ (by decide)]
      · rw [f3.a _ (by decide), f2.a _ (by decide), f1.a _ (by decide)]
    unfold wM_laysKnot_j60
    refine sM_laysSides u3 pa m pts (by rw [w3, p3, l3]; exact hpts) hm8 (f3'.PR (by decide) (by decide) hP) H3 (hK.moved f3' (by decide)) (hM.moved f3' (by decide) (by decide)) (by rw [w3]; exact hv) (by rw [p3]; exact hw) (by rw [w3, l3]; exact hits) ⟨hkn, fun i hi => by rw [e31]; exact zwr_at hi⟩ (by rw [f3'.a 25 (by decide)]; exact hm) (by rw [e29]; exact zup_at _ _ _) S (by rw [f3.i 22 (by decide), f2.i 22 (by decide), f1.i 22 (by decide)]; exact hS) hlen zfst_none Q (fun v f4 v22 vS vK v27 v28 v30 => ?_)
    rw [w3, p3, l3] at vS
    have f4' : zfr [22, 23, 49, 56] [27, 28, 29, 30, 31, 36, 37, 38, 39, 40, 41, 42, 43, 44, 45, 46, 47, 48, 50, 51, 52, 53, 54, 55] [8] t v := f3'.trans (f4.mono (by decide) (by decide) (by decide))
    have g29 : tga v 29 = zup (tga t 29) (zpA pa (zpL pa)) (zfst pts m) := by rw [f4.a 29 (by decide)]; exact e29
    have g31 : tga v 31 = zwr (9 * zpA pa (zpL pa)) 9 pts (tga t 31) := by rw [f4.a 31 (by decide)]; exact e31
    refine h v f4' (H3.moved f4 (by decide) (by decide) (by decide) (by decide) (by decide) (by decide)) v22 ?_ (hsk3.trans vK (Nat.le_refl _)) ?_ (q3.moved f4 (by decide) (by decide) (by decide) (by decide) (by decide) (by decide))
    · unfold zKn
      rw [← hpts]
      refine ⟨by rw [f4'.a 25 (by decide)]; exact hm, by rw [g29]; exact zup_at _ _ _, fun i hi => by rw [g31]; exact zwr_at hi, by rw [v27]; exact zup_at _ _ _, by rw [v28]; exact zup_at _ _ _, by rw [v30]; exact zup_at _ _ _, vS⟩
    · refine ⟨fun k hk q hq => ?_, fun q hq => ?_⟩
      · rcases hk with rfl | rfl | rfl | rfl
        · rw [v27, zup_ne _ _ hq, e27]
        · rw [v28, zup_ne _ _ hq, e28]
        · rw [g29, zup_ne _ _ hq]
        · rw [v30, zup_ne _ _ hq, e30]
      · rw [g31, zwr_ne hq]
  try simp only [zl32, zl64, i32_add, i32_sub, i32_mul, i32_neg, i64_add, i64_sub, i64_mul, i64_neg, cv_gi, cv_gw, cv_ga, cv_gl, cv_pi, cv_pw, cv_pa, cv_pl, zf_S, zf_i, zf_l, mz1, mz2, mz3, mz4]
  rw [h49]
  try simp (disch := omega) only [zi9, zi7, zi40, zi360, zikj, zijd, zi9o, zi7o, zip1, zip, zim1, i32_natN, ziL, zi_0, zi_1]
  rw [b29, h51]
  have hls2 : zLA u2 ls := (hls.moved f1 (by decide) (by decide) (by decide) (by decide) (by decide) (by decide)).moved f2 (by decide) (by decide) (by decide) (by decide) (by decide) (by decide)
  repeat' (first | (exfalso; omega) | (with_reducible refine zb_in ?_ ?_ ?_ ?_; omega; omega; omega) | (with_reducible refine zb_le ?_ ?_ ?_ ?_ (fun _ => ?_) (fun _ => ?_); omega; omega; omega; omega) | (with_reducible refine zb_lt ?_ ?_ ?_ ?_ (fun _ => ?_) (fun _ => ?_); omega; omega; omega; omega) | (with_reducible refine zb_eq ?_ ?_ ?_ ?_ (fun _ => ?_) (fun _ => ?_); omega; omega; omega; omega) | (with_reducible refine zb_leL ?_ ?_ ?_ ?_ (fun _ => ?_) (fun _ => ?_); omega; omega; omega; omega) | (with_reducible refine zb_ltL ?_ ?_ ?_ ?_ (fun _ => ?_) (fun _ => ?_); omega; omega; omega; omega) | (with_reducible refine zb_eqL ?_ ?_ ?_ ?_ (fun _ => ?_) (fun _ => ?_); omega; omega; omega; omega) | (with_reducible refine zb_nz ?_ ?_ ?_ ?_; omega; omega; omega) | (with_reducible refine zb_nzL ?_ ?_ ?_ ?_; omega; omega; omega) | with_reducible refine zb_ite ?_ | with_reducible refine zb_iteL ?_ | ((with_reducible intro y hy); subst hy; try simp only [zl32, zl64, i32_add, i32_sub, i32_mul, i32_neg, i64_add, i64_sub, i64_mul, i64_neg, cv_gi, cv_gw, cv_ga, cv_gl, cv_pi, cv_pw, cv_pa, cv_pl, zf_S, zf_i, zf_l, mz1, mz2, mz3, mz4, zr_ii, zr_iw, zr_ia, zr_il, zr_wi, zr_ww, zr_wa, zr_wl, zr_ai, zr_aw, zr_aa, zr_al, zr_li, zr_lw, zr_la, zr_ll, zw_ii, zw_ww, zw_aa, zw_ll, reduceIte, Nat.reduceEqDiff, if_true, if_false]) | with_reducible refine zb_o1 ?_ | with_reducible refine zb_o2 ?_ | with_reducible refine zb_o3 ?_ | with_reducible refine zb_o4 ?_ | with_reducible refine zb_tr ?_ | exact trivial | with_reducible refine zb_T ?_ | with_reducible refine zb_sp ?_ ?_)
  · refine sM_addsLeaf u2 ls 1 (zpD pa (zpL pa) : Nat) 1 (zpD pa (zpL pa) : Nat) (zpA pa (zpL pa) : Nat) hls2 hl _ (fun u3 f3 q3 => R u3 f3 ?_)
    unfold zleaf0
    rw [if_neg (by omega), if_pos (by omega)]
    exact q3
  · refine R u2 (zfr.refl u2) ?_
    unfold zleaf0
    rw [if_neg (by omega), if_neg (by omega), List.append_nil]
    exact hls2
  · refine sM_addsLeaf u2 ls 4 0 0 ((zfst pts m : Int) * (zpD pa (zpL pa) : Nat)) (zpA pa (zpL pa) : Nat) hls2 hl _ (fun u3 f3 q3 => R u3 f3 ?_)
    unfold zleaf0
    rw [if_pos (by omega)]
    exact q3
