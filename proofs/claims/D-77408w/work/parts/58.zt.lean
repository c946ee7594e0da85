/-! PURE 29: the model's steps -/
set_option maxRecDepth 100000
/-- what growing leaves alone -/
def zGr (t v : tS) : Prop := zfr [11, 12, 21, 22, 23, 49, 56, 61] [10, 13, 14, 15, 16, 17, 24, 25, 26, 27, 28, 29, 30, 31, 32, 33, 34, 35, 36, 37, 38, 39, 40, 41, 42, 43, 44, 45, 46, 47, 48, 49, 50, 51, 52, 53, 54, 55, 58, 59, 60] [8, 9, 57] t v
theorem zGr.trans {t u v : tS} (h : zGr t u) (h' : zGr u v) : zGr t v := zfr.trans h h'
def zLow (h : Nat) (t v : tS) : Prop := ∀ q, q < h → tga v 58 q = tga t 58 q ∧ tga v 59 q = tga t 59 q ∧ tga v 60 q = tga t 60 q
theorem zLow.trans {h h' : Nat} {t u v : tS} (a : zLow h t u) (b : zLow h' u v) (hh : h ≤ h') : zLow h t v := fun q hq => ⟨(b q (by omega)).1.trans (a q hq).1, (b q (by omega)).2.1.trans (a q hq).2.1, (b q (by omega)).2.2.trans (a q hq).2.2⟩
def zStk (u : tS) (h kn j i : Nat) : Prop := tgi u 61 = (h : Int) ∧ tga u 58 h = (kn : Int) ∧ tga u 59 h = (j : Int) ∧ tga u 60 h = (i : Int)
/-! factors look at nine numbers -/
theorem zdiv_cg {p : Int} {g f f' : Nat → Int} {d L : Nat} (hL : L < 9) (hd : d < 9) (h : ∀ q, q < 9 → f q = f' q) : zdiv p g d L f ↔ zdiv p g d L f' := by
  have e : ∀ q, q < 9 → zdvw p g d 0 (L + 1) f q = zdvw p g d 0 (L + 1) f' q := fun q hq => zdvw_congr (N := 9) _ _ _ (by omega) h q hq
  unfold zdiv
  constructor
  · intro q
    exact ⟨q.1, fun k hk => by rw [← e k (by omega)]; exact q.2 k hk⟩
  · intro q
    exact ⟨q.1, fun k hk => by rw [e k (by omega)]; exact q.2 k hk⟩
theorem znl_cg {p : Int} {g f f' : Nat → Int} {d L : Nat} (hL : L < 9) (h : ∀ q, q < 9 → f q = f' q) : ∀ q, q < 9 → znl p g d L f q = znl p g d L f' q := by
  intro q hq
  unfold znl
  by_cases c : q ≤ L
  · rw [if_pos c, if_pos c]
    by_cases c2 : q + d ≤ L
    · rw [if_pos c2, if_pos c2]
      exact zdvw_congr (N := 9) _ _ _ (by omega) h _ (by omega)
    · rw [if_neg c2, if_neg c2]
  · rw [if_neg c, if_neg c]
    exact h q hq
theorem zTk_cg {p : Int} {g : Nat → Int} {d : Nat} (hd : d < 9) : ∀ (n L : Nat) (f f' : Nat → Int) (tm : Nat), L < 9 → (∀ q, q < 9 → f q = f' q) → (zTk p g d n L f tm).1 = (zTk p g d n L f' tm).1 ∧ (zTk p g d n L f tm).2.2 = (zTk p g d n L f' tm).2.2 ∧ ∀ q, q < 9 → (zTk p g d n L f tm).2.1 q = (zTk p g d n L f' tm).2.1 q := by
  intro n
  induction n with
  | zero => intro L f f' tm _ h; exact ⟨rfl, rfl, h⟩
  | succ n ih =>
    intro L f f' tm hL h
    unfold zTk
    by_cases c : zdiv p g d L f
    · rw [if_pos c, if_pos ((zdiv_cg hL hd h).mp c)]
      exact ih _ _ _ _ (by omega) (znl_cg hL h)
    · rw [if_neg c, if_neg (fun q => c ((zdiv_cg hL hd h).mpr q))]
      exact ⟨rfl, rfl, h⟩
theorem zCd_cg {p : Int} (hp : 0 < p) {d : Nat} (hd : 1 ≤ d) (hd9 : d < 9) : ∀ (n code L : Nat) (f f' : Nat → Int) (fs : List zF), L < 9 → zred p 9 f → (∀ q, q < 9 → f q = f' q) → (zCd p d n code L f fs).1 = (zCd p d n code L f' fs).1 ∧ (zCd p d n code L f fs).2.2 = (zCd p d n code L f' fs).2.2 ∧ ∀ q, q < 9 → (zCd p d n code L f fs).2.1 q = (zCd p d n code L f' fs).2.1 q := by
  intro n
  induction n with
  | zero => intro code L f f' fs _ _ h; exact ⟨rfl, rfl, h⟩
  | succ n ih =>
    intro code L f f' fs hL hr h
    unfold zCd
    by_cases c : L < d
    · rw [if_pos c, if_pos c]
      exact ⟨rfl, rfl, h⟩
    · rw [if_neg c, if_neg c]
      have e := zTk_cg (p := p) (g := ztrial p code d) hd9 9 L f f' 0 hL h
      have o := zTk_ok hp hd (g := ztrial p code d) 9 L f 0 hL hr
      rw [← e.1, ← e.2.1]
      exact ih _ _ _ _ _ (by omega) o.2.2 e.2.2
theorem zDg_cg {p : Int} (hp : 0 < p) : ∀ (n d L : Nat) (f f' : Nat → Int) (fs : List zF), 1 ≤ d → L < 9 → zred p 9 f → fs.length + L ≤ 8 → (∀ q, q < 9 → f q = f' q) → zDg p n d L f fs = zDg p n d L f' fs := by
  intro n
  induction n with
  | zero => intros; rfl
  | succ n ih =>
    intro d L f f' fs hd hL hr hl h
    unfold zDg
    by_cases c : L < 2 * d
    · rw [if_pos c, if_pos c]
      by_cases c2 : L = 0
      · rw [if_pos c2, if_pos c2]
      · rw [if_neg c2, if_neg c2]
        congr 4
        funext k
        by_cases c3 : k ≤ L
        · rw [if_pos c3, if_pos c3, h k (by omega)]
        · rw [if_neg c3, if_neg c3]
    · rw [if_neg c, if_neg c]
      have e := zCd_cg hp hd (by omega) (p ^ d).toNat 0 L f f' fs hL hr h
      have o := zCd_ok hp hd (p ^ d).toNat 0 L f fs hL hr hl
      rw [← e.1, ← e.2.1]
      exact ih _ _ _ _ _ (by omega) (by omega) o.2.2 o.1 e.2.2
theorem zFc_cg {p : Int} (hp : 0 < p) {f f' : Nat → Int} (hr : zred p 9 f) (h : ∀ q, q < 9 → f q = f' q) : zFc p f = zFc p f' := by
  have hd := degN_lt f 9
  have e : degN f 9 = degN f' 9 := degN_congr 9 h
  unfold zFc
  rw [← e]
  refine zDg_cg hp 5 1 _ _ _ [] (Nat.le_refl _) (by omega) (zred_zmnc hp hr) (by rw [List.length_nil]; omega) (fun q hq => ?_)
  unfold zmnc
  rw [h q hq, h (degN f 9).toNat (by omega)]
/-- the residues at hand are laid, taken apart: no factor is left, or the next is taken -/
theorem sM_steps_l76 (t : tS) (kn s h j i : Nat) (re : Nat → Int) (hP : zPR t) (hst : zStk t h kn j i) (hh8 : h < 8) (hj : j < 1000000) (hs : s < 64) (h43 : 0 < h → ∀ k, k < 9 → tga t 43 (9 * s + k) = re k) (h19 : h = 0 → zred (tgw t) 9 (tgl t 19) ∧ ∀ k, k < 9 → tgl t 19 k % tgi t 0 = re k) (hre : zred (tgi t 0) 9 re) (hdg : 0 ≤ degN re 9) (hi : i < 1000000) (Q : mS → Prop)
    (he : ∀ v, zfr [11, 12] [10, 13, 14, 15, 16, 17] [] t v → i = (zFc (tgi t 0) re).length → ∀ w, zfr [61] [59, 60] [] v w → tga w 59 = zup (tga t 59) h ((j : Int) + 1) → tga w 60 = zup (tga t 60) h 0 → tgi w 61 = (if h = 0 then -1 else (h : Int)) → Q (cv w))
    (hn : ∀ v, zfr [11, 12] [10, 13, 14, 15, 16, 17] [] t v → zFA v (zFc (tgi t 0) re) → i ≠ (zFc (tgi t 0) re).length → ∀ w, w = tsa v 60 (zup (tga v 60) h ((i : Int) + 1)) → (h = 0 → wM_takesFirst (cv w) (i32 i) Q) ∧ (0 < h → wM_takesKnot (cv w) (i32 kn) (fun σ222 => wM_takesFactor σ222 (i32 kn) (i32 s) (i32 i) Q))) :
    ∃ k76 : Nat, wM_steps_l76 Q (i32 kn) (i32 s) k76 (cv t) (i32 0) := by
  have hp := hP.p
  have hwd := hP.w
  obtain ⟨s1, s2, s3, s4⟩ := hst
  have S : ∀ n k : Nat, k + n = 9 → wM_steps_l76 Q (i32 kn) (i32 s) (n + 1) (cv (tsa t 10 (zov k re (tga t 10)))) (i32 k) := by
    intro n
    induction n with
    | zero =>
      intro k hk
      have hk : k = 9 := by omega
      subst hk
      have h10 : ∀ q, q < 9 → tga (tsa t 10 (zov 9 re (tga t 10))) 10 q = re q := fun q hq => by rw [zr_aa, if_pos rfl]; exact zov_at hq
      have hde : degN (tga (tsa t 10 (zov 9 re (tga t 10))) 10) 9 = degN re 9 := degN_congr 9 h10
      have hfc : zFc (tgi t 0) (tga (tsa t 10 (zov 9 re (tga t 10))) 10) = zFc (tgi t 0) re := (zFc_cg (by omega) hre (fun q hq => (h10 q hq).symm)).symm
      rw [wM_steps_l76]
      try simp only [zl32, zl64, i32_add, i32_sub, i32_mul, i32_neg, i64_add, i64_sub, i64_mul, i64_neg, cv_gi, cv_gw, cv_ga, cv_gl, cv_pi, cv_pw, cv_pa, cv_pl, zf_S, zf_i, zf_l, mz1, mz2, mz3, mz4]
      repeat' (first | (exfalso; omega) | (with_reducible refine zb_in ?_ ?_ ?_ ?_; omega; omega; omega) | (with_reducible refine zb_le ?_ ?_ ?_ ?_ (fun _ => ?_) (fun _ => ?_); omega; omega; omega; omega) | (with_reducible refine zb_lt ?_ ?_ ?_ ?_ (fun _ => ?_) (fun _ => ?_); omega; omega; omega; omega) | (with_reducible refine zb_eq ?_ ?_ ?_ ?_ (fun _ => ?_) (fun _ => ?_); omega; omega; omega; omega) | (with_reducible refine zb_leL ?_ ?_ ?_ ?_ (fun _ => ?_) (fun _ => ?_); omega; omega; omega; omega) | (with_reducible refine zb_ltL ?_ ?_ ?_ ?_ (fun _ => ?_) (fun _ => ?_); omega; omega; omega; omega) | (with_reducible refine zb_eqL ?_ ?_ ?_ ?_ (fun _ => ?_) (fun _ => ?_); omega; omega; omega; omega) | (with_reducible refine zb_nz ?_ ?_ ?_ ?_; omega; omega; omega) | (with_reducible refine zb_nzL ?_ ?_ ?_ ?_; omega; omega; omega) | with_reducible refine zb_ite ?_ | with_reducible refine zb_iteL ?_ | ((with_reducible intro y hy); subst hy; try simp only [zl32, zl64, i32_add, i32_sub, i32_mul, i32_neg, i64_add, i64_sub, i64_mul, i64_neg, cv_gi, cv_gw, cv_ga, cv_gl, cv_pi, cv_pw, cv_pa, cv_pl, zf_S, zf_i, zf_l, mz1, mz2, mz3, mz4, zr_ii, zr_iw, zr_ia, zr_il, zr_wi, zr_ww, zr_wa, zr_wl, zr_ai, zr_aw, zr_aa, zr_al, zr_li, zr_lw, zr_la, zr_ll, zw_ii, zw_ww, zw_aa, zw_ll, reduceIte, Nat.reduceEqDiff, if_true, if_false]) | with_reducible refine zb_o1 ?_ | with_reducible refine zb_o2 ?_ | with_reducible refine zb_o3 ?_ | with_reducible refine zb_o4 ?_ | with_reducible refine zb_tr ?_ | exact trivial | with_reducible refine zb_T ?_ | with_reducible refine zb_sp ?_ ?_)
      refine sM_takesApart (tsa t 10 (zov 9 re (tga t 10))) hP (fun q hq => by rw [h10 q hq]; exact hre q hq) (by rw [hde]; exact hdg) _ (fun v f1 f2 => ?_)
      rw [zr_ia, hfc] at f2
      have tv : zfr [11, 12] [10, 13, 14, 15, 16, 17] [] t v := (zfr_sa (zfr.refl t) (by decide)).trans f1
      have e61 : tgi v 61 = (h : Int) := by rw [tv.i 61 (by decide)]; exact s1
      have e59 : tga v 59 h = (j : Int) := by rw [tv.a 59 (by decide)]; exact s3
      have e60 : tga v 60 h = (i : Int) := by rw [tv.a 60 (by decide)]; exact s4
      have e12 := f2.1
      have hlen : (zFc (tgi t 0) re).length < 1000000 := by
        have := zsum_len _ (zFc_fok (tgi t 0) re)
        have := zFc_sum (tgi t 0) re
        have := degN_lt re 9
        omega
      have hn2 := hn v tv f2
      have he2 := he v tv
      try simp only [zl32, zl64, i32_add, i32_sub, i32_mul, i32_neg, i64_add, i64_sub, i64_mul, i64_neg, cv_gi, cv_gw, cv_ga, cv_gl, cv_pi, cv_pw, cv_pa, cv_pl, zf_S, zf_i, zf_l, mz1, mz2, mz3, mz4, zr_ii, zr_iw, zr_ia, zr_il, zr_wi, zr_ww, zr_wa, zr_wl, zr_ai, zr_aw, zr_aa, zr_al, zr_li, zr_lw, zr_la, zr_ll, zw_ii, zw_ww, zw_aa, zw_ll, reduceIte, Nat.reduceEqDiff, if_true, if_false]
      simp only [e61]
      try simp (disch := omega) only [zi9, zi7, zi40, zi360, zikj, zijd, zi9o, zi7o, zip1, zip, zim1, i32_natN, ziL, zi_0, zi_1]
      simp only [e59, e60, e12]
      by_cases c : i = (zFc (tgi t 0) re).length
      · rw [c]
        repeat' (first | (exfalso; omega) | (with_reducible refine zb_in ?_ ?_ ?_ ?_; omega; omega; omega) | (with_reducible refine zb_le ?_ ?_ ?_ ?_ (fun _ => ?_) (fun _ => ?_); omega; omega; omega; omega) | (with_reducible refine zb_lt ?_ ?_ ?_ ?_ (fun _ => ?_) (fun _ => ?_); omega; omega; omega; omega) | (with_reducible refine zb_eq ?_ ?_ ?_ ?_ (fun _ => ?_) (fun _ => ?_); omega; omega; omega; omega) | (with_reducible refine zb_leL ?_ ?_ ?_ ?_ (fun _ => ?_) (fun _ => ?_); omega; omega; omega; omega) | (with_reducible refine zb_ltL ?_ ?_ ?_ ?_ (fun _ => ?_) (fun _ => ?_); omega; omega; omega; omega) | (with_reducible refine zb_eqL ?_ ?_ ?_ ?_ (fun _ => ?_) (fun _ => ?_); omega; omega; omega; omega) | (with_reducible refine zb_nz ?_ ?_ ?_ ?_; omega; omega; omega) | (with_reducible refine zb_nzL ?_ ?_ ?_ ?_; omega; omega; omega) | with_reducible refine zb_ite ?_ | with_reducible refine zb_iteL ?_ | ((with_reducible intro y hy); subst hy; try simp only [zl32, zl64, i32_add, i32_sub, i32_mul, i32_neg, i64_add, i64_sub, i64_mul, i64_neg, cv_gi, cv_gw, cv_ga, cv_gl, cv_pi, cv_pw, cv_pa, cv_pl, zf_S, zf_i, zf_l, mz1, mz2, mz3, mz4, zr_ii, zr_iw, zr_ia, zr_il, zr_wi, zr_ww, zr_wa, zr_wl, zr_ai, zr_aw, zr_aa, zr_al, zr_li, zr_lw, zr_la, zr_ll, zw_ii, zw_ww, zw_aa, zw_ll, reduceIte, Nat.reduceEqDiff, if_true, if_false]) | with_reducible refine zb_o1 ?_ | with_reducible refine zb_o2 ?_ | with_reducible refine zb_o3 ?_ | with_reducible refine zb_o4 ?_ | with_reducible refine zb_tr ?_ | exact trivial | with_reducible refine zb_T ?_ | with_reducible refine zb_sp ?_ ?_)
        · refine he2 c _ (zfr_pi (zfr_sa (zfr_sa (zfr.refl v) (by decide)) (by decide)) (by decide)) (by try simp only [zl32, zl64, i32_add, i32_sub, i32_mul, i32_neg, i64_add, i64_sub, i64_mul, i64_neg, cv_gi, cv_gw, cv_ga, cv_gl, cv_pi, cv_pw, cv_pa, cv_pl, zf_S, zf_i, zf_l, mz1, mz2, mz3, mz4, zr_ii, zr_iw, zr_ia, zr_il, zr_wi, zr_ww, zr_wa, zr_wl, zr_ai, zr_aw, zr_aa, zr_al, zr_li, zr_lw, zr_la, zr_ll, zw_ii, zw_ww, zw_aa, zw_ll, reduceIte, Nat.reduceEqDiff, if_true, if_false]; rw [tv.a 59 (by decide)]) (by try simp only [zl32, zl64, i32_add, i32_sub, i32_mul, i32_neg, i64_add, i64_sub, i64_mul, i64_neg, cv_gi, cv_gw, cv_ga, cv_gl, cv_pi, cv_pw, cv_pa, cv_pl, zf_S, zf_i, zf_l, mz1, mz2, mz3, mz4, zr_ii, zr_iw, zr_ia, zr_il, zr_wi, zr_ww, zr_wa, zr_wl, zr_ai, zr_aw, zr_aa, zr_al, zr_li, zr_lw, zr_la, zr_ll, zw_ii, zw_ww, zw_aa, zw_ll, reduceIte, Nat.reduceEqDiff, if_true, if_false]; rw [tv.a 60 (by decide)]) ?_
          try simp only [zl32, zl64, i32_add, i32_sub, i32_mul, i32_neg, i64_add, i64_sub, i64_mul, i64_neg, cv_gi, cv_gw, cv_ga, cv_gl, cv_pi, cv_pw, cv_pa, cv_pl, zf_S, zf_i, zf_l, mz1, mz2, mz3, mz4, zr_ii, zr_iw, zr_ia, zr_il, zr_wi, zr_ww, zr_wa, zr_wl, zr_ai, zr_aw, zr_aa, zr_al, zr_li, zr_lw, zr_la, zr_ll, zw_ii, zw_ww, zw_aa, zw_ll, reduceIte, Nat.reduceEqDiff, if_true, if_false]
          rw [if_pos (by omega)]
          omega
        · refine he2 c _ (zfr_pi (zfr_sa (zfr_sa (zfr.refl v) (by decide)) (by decide)) (by decide)) (by try simp only [zl32, zl64, i32_add, i32_sub, i32_mul, i32_neg, i64_add, i64_sub, i64_mul, i64_neg, cv_gi, cv_gw, cv_ga, cv_gl, cv_pi, cv_pw, cv_pa, cv_pl, zf_S, zf_i, zf_l, mz1, mz2, mz3, mz4, zr_ii, zr_iw, zr_ia, zr_il, zr_wi, zr_ww, zr_wa, zr_wl, zr_ai, zr_aw, zr_aa, zr_al, zr_li, zr_lw, zr_la, zr_ll, zw_ii, zw_ww, zw_aa, zw_ll, reduceIte, Nat.reduceEqDiff, if_true, if_false]; rw [tv.a 59 (by decide)]) (by try simp only [zl32, zl64, i32_add, i32_sub, i32_mul, i32_neg, i64_add, i64_sub, i64_mul, i64_neg, cv_gi, cv_gw, cv_ga, cv_gl, cv_pi, cv_pw, cv_pa, cv_pl, zf_S, zf_i, zf_l, mz1, mz2, mz3, mz4, zr_ii, zr_iw, zr_ia, zr_il, zr_wi, zr_ww, zr_wa, zr_wl, zr_ai, zr_aw, zr_aa, zr_al, zr_li, zr_lw, zr_la, zr_ll, zw_ii, zw_ww, zw_aa, zw_ll, reduceIte, Nat.reduceEqDiff, if_true, if_false]; rw [tv.a 60 (by decide)]) ?_
          try simp only [zl32, zl64, i32_add, i32_sub, i32_mul, i32_neg, i64_add, i64_sub, i64_mul, i64_neg, cv_gi, cv_gw, cv_ga, cv_gl, cv_pi, cv_pw, cv_pa, cv_pl, zf_S, zf_i, zf_l, mz1, mz2, mz3, mz4, zr_ii, zr_iw, zr_ia, zr_il, zr_wi, zr_ww, zr_wa, zr_wl, zr_ai, zr_aw, zr_aa, zr_al, zr_li, zr_lw, zr_la, zr_ll, zw_ii, zw_ww, zw_aa, zw_ll, reduceIte, Nat.reduceEqDiff, if_true, if_false]
          rw [if_neg (by omega)]
          omega
      · have hn3 := hn2 c _ rfl
        repeat' (first | (exfalso; omega) | (with_reducible refine zb_in ?_ ?_ ?_ ?_; omega; omega; omega) | (with_reducible refine zb_le ?_ ?_ ?_ ?_ (fun _ => ?_) (fun _ => ?_); omega; omega; omega; omega) | (with_reducible refine zb_lt ?_ ?_ ?_ ?_ (fun _ => ?_) (fun _ => ?_); omega; omega; omega; omega) | (with_reducible refine zb_eq ?_ ?_ ?_ ?_ (fun _ => ?_) (fun _ => ?_); omega; omega; omega; omega) | (with_reducible refine zb_leL ?_ ?_ ?_ ?_ (fun _ => ?_) (fun _ => ?_); omega; omega; omega; omega) | (with_reducible refine zb_ltL ?_ ?_ ?_ ?_ (fun _ => ?_) (fun _ => ?_); omega; omega; omega; omega) | (with_reducible refine zb_eqL ?_ ?_ ?_ ?_ (fun _ => ?_) (fun _ => ?_); omega; omega; omega; omega) | (with_reducible refine zb_nz ?_ ?_ ?_ ?_; omega; omega; omega) | (with_reducible refine zb_nzL ?_ ?_ ?_ ?_; omega; omega; omega) | with_reducible refine zb_ite ?_ | with_reducible refine zb_iteL ?_ | ((with_reducible intro y hy); subst hy; try simp only [zl32, zl64, i32_add, i32_sub, i32_mul, i32_neg, i64_add, i64_sub, i64_mul, i64_neg, cv_gi, cv_gw, cv_ga, cv_gl, cv_pi, cv_pw, cv_pa, cv_pl, zf_S, zf_i, zf_l, mz1, mz2, mz3, mz4, zr_ii, zr_iw, zr_ia, zr_il, zr_wi, zr_ww, zr_wa, zr_wl, zr_ai, zr_aw, zr_aa, zr_al, zr_li, zr_lw, zr_la, zr_ll, zw_ii, zw_ww, zw_aa, zw_ll, reduceIte, Nat.reduceEqDiff, if_true, if_false]) | with_reducible refine zb_o1 ?_ | with_reducible refine zb_o2 ?_ | with_reducible refine zb_o3 ?_ | with_reducible refine zb_o4 ?_ | with_reducible refine zb_tr ?_ | exact trivial | with_reducible refine zb_T ?_ | with_reducible refine zb_sp ?_ ?_)
        · exact hn3.1 (by omega)
        · exact hn3.2 (by omega)
    | succ n ih =>
      intro k hk
      have e := ih (k + 1) (by omega)
      rw [← zov_s] at e
      rw [wM_steps_l76]
      unfold wM_steps_j118
      try simp only [zl32, zl64, i32_add, i32_sub, i32_mul, i32_neg, i64_add, i64_sub, i64_mul, i64_neg, cv_gi, cv_gw, cv_ga, cv_gl, cv_pi, cv_pw, cv_pa, cv_pl, zf_S, zf_i, zf_l, mz1, mz2, mz3, mz4, zr_ii, zr_iw, zr_ia, zr_il, zr_wi, zr_ww, zr_wa, zr_wl, zr_ai, zr_aw, zr_aa, zr_al, zr_li, zr_lw, zr_la, zr_ll, zw_ii, zw_ww, zw_aa, zw_ll, reduceIte, Nat.reduceEqDiff, if_true, if_false]
      rw [s1]
      try simp (disch := omega) only [zi9, zi7, zi40, zi360, zikj, zijd, zi9o, zi7o, zip1, zip, zim1, i32_natN, ziL, zi_0, zi_1]
      repeat' (first | (exfalso; omega) | (with_reducible refine zb_in ?_ ?_ ?_ ?_; omega; omega; omega) | (with_reducible refine zb_le ?_ ?_ ?_ ?_ (fun _ => ?_) (fun _ => ?_); omega; omega; omega; omega) | (with_reducible refine zb_lt ?_ ?_ ?_ ?_ (fun _ => ?_) (fun _ => ?_); omega; omega; omega; omega) | (with_reducible refine zb_eq ?_ ?_ ?_ ?_ (fun _ => ?_) (fun _ => ?_); omega; omega; omega; omega) | (with_reducible refine zb_leL ?_ ?_ ?_ ?_ (fun _ => ?_) (fun _ => ?_); omega; omega; omega; omega) | (with_reducible refine zb_ltL ?_ ?_ ?_ ?_ (fun _ => ?_) (fun _ => ?_); omega; omega; omega; omega) | (with_reducible refine zb_eqL ?_ ?_ ?_ ?_ (fun _ => ?_) (fun _ => ?_); omega; omega; omega; omega) | (with_reducible refine zb_nz ?_ ?_ ?_ ?_; omega; omega; omega) | (with_reducible refine zb_nzL ?_ ?_ ?_ ?_; omega; omega; omega) | with_reducible refine zb_ite ?_ | with_reducible refine zb_iteL ?_ | ((with_reducible intro y hy); subst hy; try simp only [zl32, zl64, i32_add, i32_sub, i32_mul, i32_neg, i64_add, i64_sub, i64_mul, i64_neg, cv_gi, cv_gw, cv_ga, cv_gl, cv_pi, cv_pw, cv_pa, cv_pl, zf_S, zf_i, zf_l, mz1, mz2, mz3, mz4, zr_ii, zr_iw, zr_ia, zr_il, zr_wi, zr_ww, zr_wa, zr_wl, zr_ai, zr_aw, zr_aa, zr_al, zr_li, zr_lw, zr_la, zr_ll, zw_ii, zw_ww, zw_aa, zw_ll, reduceIte, Nat.reduceEqDiff, if_true, if_false]) | with_reducible refine zb_o1 ?_ | with_reducible refine zb_o2 ?_ | with_reducible refine zb_o3 ?_ | with_reducible refine zb_o4 ?_ | with_reducible refine zb_tr ?_ | exact trivial | with_reducible refine zb_T ?_ | with_reducible refine zb_sp ?_ ?_)
      · have h0 := h19 (by omega)
        have hr := h0.1 k (by omega)
        refine sM_residue (tsa t 10 (zov k re (tga t 10))) _ hP (by omega) (by omega) _ ?_
        try simp only [zl32, zl64, i32_add, i32_sub, i32_mul, i32_neg, i64_add, i64_sub, i64_mul, i64_neg, cv_gi, cv_gw, cv_ga, cv_gl, cv_pi, cv_pw, cv_pa, cv_pl, zf_S, zf_i, zf_l, mz1, mz2, mz3, mz4, zr_ii, zr_iw, zr_ia, zr_il, zr_wi, zr_ww, zr_wa, zr_wl, zr_ai, zr_aw, zr_aa, zr_al, zr_li, zr_lw, zr_la, zr_ll, zw_ii, zw_ww, zw_aa, zw_ll, reduceIte, Nat.reduceEqDiff, if_true, if_false]
        rw [h0.2 k (by omega)]
        try simp (disch := omega) only [zi9, zi7, zi40, zi360, zikj, zijd, zi9o, zi7o, zip1, zip, zim1, i32_natN, ziL, zi_0, zi_1]
        repeat' (first | (exfalso; omega) | (with_reducible refine zb_in ?_ ?_ ?_ ?_; omega; omega; omega) | (with_reducible refine zb_le ?_ ?_ ?_ ?_ (fun _ => ?_) (fun _ => ?_); omega; omega; omega; omega) | (with_reducible refine zb_lt ?_ ?_ ?_ ?_ (fun _ => ?_) (fun _ => ?_); omega; omega; omega; omega) | (with_reducible refine zb_eq ?_ ?_ ?_ ?_ (fun _ => ?_) (fun _ => ?_); omega; omega; omega; omega) | (with_reducible refine zb_leL ?_ ?_ ?_ ?_ (fun _ => ?_) (fun _ => ?_); omega; omega; omega; omega) | (with_reducible refine zb_ltL ?_ ?_ ?_ ?_ (fun _ => ?_) (fun _ => ?_); omega; omega; omega; omega) | (with_reducible refine zb_eqL ?_ ?_ ?_ ?_ (fun _ => ?_) (fun _ => ?_); omega; omega; omega; omega) | (with_reducible refine zb_nz ?_ ?_ ?_ ?_; omega; omega; omega) | (with_reducible refine zb_nzL ?_ ?_ ?_ ?_; omega; omega; omega) | with_reducible refine zb_ite ?_ | with_reducible refine zb_iteL ?_ | ((with_reducible intro y hy); subst hy; try simp only [zl32, zl64, i32_add, i32_sub, i32_mul, i32_neg, i64_add, i64_sub, i64_mul, i64_neg, cv_gi, cv_gw, cv_ga, cv_gl, cv_pi, cv_pw, cv_pa, cv_pl, zf_S, zf_i, zf_l, mz1, mz2, mz3, mz4, zr_ii, zr_iw, zr_ia, zr_il, zr_wi, zr_ww, zr_wa, zr_wl, zr_ai, zr_aw, zr_aa, zr_al, zr_li, zr_lw, zr_la, zr_ll, zw_ii, zw_ww, zw_aa, zw_ll, reduceIte, Nat.reduceEqDiff, if_true, if_false]) | with_reducible refine zb_o1 ?_ | with_reducible refine zb_o2 ?_ | with_reducible refine zb_o3 ?_ | with_reducible refine zb_o4 ?_ | with_reducible refine zb_tr ?_ | exact trivial | with_reducible refine zb_T ?_ | with_reducible refine zb_sp ?_ ?_)
        exact e
      · rw [h43 (by omega) k (by omega)]
        try simp (disch := omega) only [zi9, zi7, zi40, zi360, zikj, zijd, zi9o, zi7o, zip1, zip, zim1, i32_natN, ziL, zi_0, zi_1]
        exact e
  try simp only [zl32, zl64, i32_add, i32_sub, i32_mul, i32_neg, i64_add, i64_sub, i64_mul, i64_neg, cv_gi, cv_gw, cv_ga, cv_gl, cv_pi, cv_pw, cv_pa, cv_pl, zf_S, zf_i, zf_l, mz1, mz2, mz3, mz4]
  have e := S 9 0 rfl
  rw [zov_0, zw_a0] at e
  exact ⟨10, e⟩
