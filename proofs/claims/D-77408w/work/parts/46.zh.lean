/-! PURE 17: the model's sides -/
set_option maxRecDepth 100000
/-- sides below s are as they were -/
def zSk (t u : tS) (s : Nat) : Prop := (∀ k, 36 ≤ k → k ≤ 41 → ∀ q, q < s → tga u k q = tga t k q) ∧ (∀ q, q < 7 * s → tga u 42 q = tga t 42 q) ∧ ∀ q, q < 9 * s → tga u 43 q = tga t 43 q
theorem zSk.SA {t u : tS} {s s' : Nat} {x : zS} (h : zSk t u s) (hs : s' < s) (hx : zSA t s' x) : zSA u s' x := by
  obtain ⟨h1, h2, h3⟩ := h
  obtain ⟨x1, x2, x3, x4, x5, x6, x7, x8⟩ := hx
  exact ⟨(h1 36 (by omega) (by omega) s' hs).trans x1, (h1 37 (by omega) (by omega) s' hs).trans x2, (h1 38 (by omega) (by omega) s' hs).trans x3, (h1 40 (by omega) (by omega) s' hs).trans x4, (h1 39 (by omega) (by omega) s' hs).trans x5, (h1 41 (by omega) (by omega) s' hs).trans x6, fun q hq => (h2 _ (by omega)).trans (x7 q hq), fun k hk => (h3 _ (by omega)).trans (x8 k hk)⟩
theorem zSk.trans {t u v : tS} {s s' : Nat} (h : zSk t u s) (h' : zSk u v s') (hs : s ≤ s') : zSk t v s :=
  ⟨fun k a b q hq => (h'.1 k a b q (by omega)).trans (h.1 k a b q hq), fun q hq => (h'.2.1 q (by omega)).trans (h.2.1 q hq), fun q hq => (h'.2.2 q (by omega)).trans (h.2.2 q hq)⟩
theorem zvm_bd {M p : Int} {pa : zP} (hv : zPv M pa) (hw : zPw p pa) (v : Int) (q : Nat) (hq : 1 ≤ q) : 0 ≤ zvm pa v q ∧ zvm pa v q ≤ 3 := by
  unfold zvm
  rw [if_neg (by omega)]
  by_cases c : q < zpL pa
  · rw [if_pos c]
    have hR := hv.R hq c
    have := (zft_ok (n := zvn pa v (zpL pa - 1 - q)) (hw q hq c).1).1
    omega
  · rw [if_neg c]; omega
theorem zpts_on {M p : Int} {pa : zP} {f : Nat → Int} {m i : Nat} (hv : zPv M pa) (h : 0 ≤ zpts M p pa f m i) : i ≤ m ∧ i * zpD pa (zpL pa) < 9 ∧ 0 ≤ (zhd M p pa (zprt M pa f i)).1 ∧ 0 ≤ (zhd M p pa (zprt M pa f i)).2 := by
  have b := zbs_bd (p := p) hv (zprt M pa f i) (zpD pa (zpL pa))
  unfold zpts at h
  by_cases c : i ≤ m ∧ i * zpD pa (zpL pa) < 9
  · rw [if_pos c] at h
    by_cases c2 : (zhd M p pa (zprt M pa f i)).1 < 0
    · rw [if_pos c2] at h
      omega
    · refine ⟨c.1, c.2, by omega, ?_⟩
      have h5 := b.2.2.2.2
      have : ¬ (zhd M p pa (zprt M pa f i)).2 < 0 := fun q => c2 (h5.mpr q)
      omega
  · rw [if_neg c] at h
    omega
theorem zpts_bd {M p : Int} {pa : zP} {f : Nat → Int} {m : Nat} (hv : zPv M pa) (hm : m ≤ 8) : zpb (zpts M p pa f m) := by
  intro i
  have b := zbs_bd (p := p) hv (zprt M pa f i) (zpD pa (zpL pa))
  have hb : (zhd M p pa (zprt M pa f i)).1 ≤ 200000 := b.2.1
  have hl := zlift_bd hv
  unfold zpts
  by_cases c : i ≤ m ∧ i * zpD pa (zpL pa) < 9
  · rw [if_pos c]
    have b2 : (i : Int) * zlift pa ≤ 8 * 6912 := Int.mul_le_mul (by omega) hl.2 hl.1 (by omega)
    have b3 : 0 ≤ (i : Int) * zlift pa := Int.mul_nonneg (by omega) hl.1
    by_cases c2 : (zhd M p pa (zprt M pa f i)).1 < 0
    · rw [if_pos c2]; omega
    · rw [if_neg c2]; omega
  · rw [if_neg c]; omega
/-- numbers of a side -/
theorem zgd_ok {pts : Nat → Int} {a b : Nat} (hab : a < b) (hf : pts b < pts a) : 1 ≤ zgd pts a b ∧ zgd pts a b ≤ b - a ∧ zgd pts a b * zrm pts a b = b - a ∧ 1 ≤ zrm pts a b ∧ (zgd pts a b : Int) * ((pts a - pts b) / (zgd pts a b : Int)) = pts a - pts b ∧ 0 < (pts a - pts b) / (zgd pts a b : Int) ∧ (pts a - pts b) / (zgd pts a b : Int) ≤ pts a - pts b := by
  have h1 : zgd pts a b ∣ b - a := Nat.gcd_dvd_left _ _
  have h2 : zgd pts a b ∣ (pts a - pts b).toNat := Nat.gcd_dvd_right _ _
  have h3 : 1 ≤ zgd pts a b := Nat.gcd_pos_of_pos_left _ (by omega)
  have h4 : zgd pts a b ≤ b - a := Nat.le_of_dvd (by omega) h1
  have h5 : zgd pts a b * zrm pts a b = b - a := Nat.mul_div_cancel' h1
  have h6 : 1 ≤ zrm pts a b := Nat.div_pos h4 h3
  obtain ⟨F, hF⟩ : ∃ F : Nat, pts a - pts b = (F : Int) := ⟨(pts a - pts b).toNat, by omega⟩
  rw [hF, Int.toNat_natCast] at h2
  have h7 : zgd pts a b * (F / zgd pts a b) = F := Nat.mul_div_cancel' h2
  have h8 : 1 ≤ F / zgd pts a b := Nat.div_pos (Nat.le_of_dvd (by omega) h2) h3
  have h9 : F / zgd pts a b ≤ F := Nat.div_le_self _ _
  rw [hF]
  refine ⟨h3, h4, h5, h6, ?_, ?_, ?_⟩
  · have : ((zgd pts a b * (F / zgd pts a b) : Nat) : Int) = (F : Int) := by rw [h7]
    rw [Int.natCast_mul] at this
    exact this
  · show (0 : Int) < ((F / zgd pts a b : Nat) : Int)
    omega
  · show ((F / zgd pts a b : Nat) : Int) ≤ F
    omega
theorem sM_laysSide (t : tS) (pa : zP) (m s a b : Nat) (pts : Nat → Int) (hpts : pts = zpts (tgw t) (tgi t 0) pa (tgl t 19) m) (hm8 : m ≤ 8) (hP : zPR t) (hH : zHd t pa) (hK : zKy t pa) (hM : zMd t pa) (hv : zPv (tgw t) pa) (hw : zPw (tgi t 0) pa) (hits : zred (tgw t) 9 (tgl t 19)) (hpt : zPt t (zpA pa (zpL pa)) pts) (hs : tgi t 22 = (s : Int)) (hs64 : s < 64) (hab : a < b) (hb8 : b ≤ m) (hpb : 0 ≤ pts b) (hf : pts b < pts a) (Q : mS → Prop)
    (h : ∀ u, zfr [22, 56] [36, 37, 38, 39, 40, 41, 42, 43, 55] [8] t u → tgi u 22 = (s : Int) + 1 → zSA u s (zside (tgw t) (tgi t 0) pa (tgl t 19) pts (a, b)) → zSk t u s → Q (cv u)) : wM_laysSide (cv t) (i32 (zpA pa (zpL pa))) (i32 a) (i32 b) Q := by
  have hbb : zpb pts := by rw [hpts]; exact zpts_bd hv hm8
  have ba := hbb a
  have bb := hbb b
  obtain ⟨g1, g2, g3, g4, g5, g6, g7⟩ := zgd_ok hab hf
  have hlb := zlift_bd hv
  have hgr : zrm pts a b ≤ 8 := by
    have : zrm pts a b ≤ zgd pts a b * zrm pts a b := Nat.le_mul_of_pos_left _ g1
    omega
  have hsl1 : 0 ≤ (zrm pts a b : Int) * zlift pa := Int.mul_nonneg (by omega) hlb.1
  have hsl2 : (zrm pts a b : Int) * zlift pa ≤ 8 * 6912 := Int.mul_le_mul (by omega) hlb.2 hlb.1 (by omega)
  have hslv : zsl pa pts a b = (zrm pts a b : Int) * zlift pa + (pts a - pts b) / (zgd pts a b : Int) := rfl
  obtain ⟨F, hF⟩ : ∃ F : Nat, pts a - pts b = (F : Int) := ⟨(pts a - pts b).toNat, by omega⟩
  have hgF : Nat.gcd (b - a) F = zgd pts a b := by
    unfold zgd
    rw [hF, Int.toNat_natCast]
  have hram : ((b : Int) - a).tdiv (zgd pts a b : Int) = (zrm pts a b : Int) := by
    rw [show ((b : Int) - a) = ((b - a : Nat) : Int) by omega]
    rfl
  have hfg : (pts a - pts b).tdiv (zgd pts a b : Int) = (pts a - pts b) / (zgd pts a b : Int) := ze_tdivn (by omega)
  unfold wM_laysSide
  refine sM_point0 t _ _ pts hpt (by omega) _ ?_
  refine sM_point0 t _ _ pts hpt (by omega) _ ?_
  try simp only [zl32, zl64, i32_add, i32_sub, i32_mul, i32_neg, i64_add, i64_sub, i64_mul, i64_neg, cv_gi, cv_gw, cv_ga, cv_gl, cv_pi, cv_pw, cv_pa, cv_pl, zf_S, zf_i, zf_l, mz1, mz2, mz3, mz4]
  rw [show ((b : Int) - a) = ((b - a : Nat) : Int) by omega, hF]
  refine sM_divisor (b - a) F (by omega) (by omega) _ ?_
  rw [hgF, ← hF, show ((b - a : Nat) : Int) = ((b : Int) - a) by omega]
  try simp only [zl32, zl64, i32_add, i32_sub, i32_mul, i32_neg, i64_add, i64_sub, i64_mul, i64_neg, cv_gi, cv_gw, cv_ga, cv_gl, cv_pi, cv_pw, cv_pa, cv_pl, zf_S, zf_i, zf_l, mz1, mz2, mz3, mz4, zr_ii, zr_iw, zr_ia, zr_il, zr_wi, zr_ww, zr_wa, zr_wl, zr_ai, zr_aw, zr_aa, zr_al, zr_li, zr_lw, zr_la, zr_ll, zw_ii, zw_ww, zw_aa, zw_ll, reduceIte, Nat.reduceEqDiff, if_true, if_false]
  rw [hs]
  try simp (disch := omega) only [zi9, zi7, zi40, zi360, zikj, zijd, zi9o, zi7o, zip1, zip, zim1, i32_natN, ziL, zi_0, zi_1]
  repeat' (first | (exfalso; omega) | (with_reducible refine zb_in ?_ ?_ ?_ ?_; omega; omega; omega) | (with_reducible refine zb_le ?_ ?_ ?_ ?_ (fun _ => ?_) (fun _ => ?_); omega; omega; omega; omega) | (with_reducible refine zb_lt ?_ ?_ ?_ ?_ (fun _ => ?_) (fun _ => ?_); omega; omega; omega; omega) | (with_reducible refine zb_eq ?_ ?_ ?_ ?_ (fun _ => ?_) (fun _ => ?_); omega; omega; omega; omega) | (with_reducible refine zb_leL ?_ ?_ ?_ ?_ (fun _ => ?_) (fun _ => ?_); omega; omega; omega; omega) | (with_reducible refine zb_ltL ?_ ?_ ?_ ?_ (fun _ => ?_) (fun _ => ?_); omega; omega; omega; omega) | (with_reducible refine zb_eqL ?_ ?_ ?_ ?_ (fun _ => ?_) (fun _ => ?_); omega; omega; omega; omega) | (with_reducible refine zb_nz ?_ ?_ ?_ ?_; omega; omega; omega) | (with_reducible refine zb_nzL ?_ ?_ ?_ ?_; omega; omega; omega) | with_reducible refine zb_ite ?_ | with_reducible refine zb_iteL ?_ | ((with_reducible intro y hy); subst hy; try simp only [zl32, zl64, i32_add, i32_sub, i32_mul, i32_neg, i64_add, i64_sub, i64_mul, i64_neg, cv_gi, cv_gw, cv_ga, cv_gl, cv_pi, cv_pw, cv_pa, cv_pl, zf_S, zf_i, zf_l, mz1, mz2, mz3, mz4, zr_ii, zr_iw, zr_ia, zr_il, zr_wi, zr_ww, zr_wa, zr_wl, zr_ai, zr_aw, zr_aa, zr_al, zr_li, zr_lw, zr_la, zr_ll, zw_ii, zw_ww, zw_aa, zw_ll, reduceIte, Nat.reduceEqDiff, if_true, if_false]) | with_reducible refine zb_o1 ?_ | with_reducible refine zb_o2 ?_ | with_reducible refine zb_o3 ?_ | with_reducible refine zb_o4 ?_ | with_reducible refine zb_tr ?_ | exact trivial | with_reducible refine zb_T ?_ | with_reducible refine zb_sp ?_ ?_)
  rw [i32_div (by omega) (by omega) (by omega) (by omega), hram]
  try simp only [zl32, zl64, i32_add, i32_sub, i32_mul, i32_neg, i64_add, i64_sub, i64_mul, i64_neg, cv_gi, cv_gw, cv_ga, cv_gl, cv_pi, cv_pw, cv_pa, cv_pl, zf_S, zf_i, zf_l, mz1, mz2, mz3, mz4, zr_ii, zr_iw, zr_ia, zr_il, zr_wi, zr_ww, zr_wa, zr_wl, zr_ai, zr_aw, zr_aa, zr_al, zr_li, zr_lw, zr_la, zr_ll, zw_ii, zw_ww, zw_aa, zw_ll, reduceIte, Nat.reduceEqDiff, if_true, if_false]
  try simp (disch := omega) only [zi9, zi7, zi40, zi360, zikj, zijd, zi9o, zi7o, zip1, zip, zim1, i32_natN, ziL, zi_0, zi_1]
  obtain ⟨u1, hu1⟩ : ∃ u1, u1 = tsa (tsa (tsa (tsa (tsa t 36 (zup (tga t 36) s a)) 37 (zup (tga t 37) s b)) 38 (zup (tga t 38) s (pts a - pts b))) 40 (zup (tga t 40) s (zgd pts a b : Nat))) 39 (zup (tga t 39) s (zrm pts a b : Nat)) := ⟨_, rfl⟩
  rw [← hu1]
  have hf1 : zfr [] [36, 37, 38, 39, 40] [] t u1 := by
    rw [hu1]
    exact zfr_sa (zfr_sa (zfr_sa (zfr_sa (zfr_sa (zfr.refl t) (by decide)) (by decide)) (by decide)) (by decide)) (by decide)
  refine sM_lift u1 pa (hH.moved hf1 (by decide) (by decide) (by decide) (by decide) (by decide) (by decide)) hv _ ?_
  have e22 : tgi u1 22 = (s : Int) := by rw [hf1.i 22 (by decide)]; exact hs
  have e39 : tga u1 39 s = (zrm pts a b : Int) := by rw [hu1]; try simp only [zl32, zl64, i32_add, i32_sub, i32_mul, i32_neg, i64_add, i64_sub, i64_mul, i64_neg, cv_gi, cv_gw, cv_ga, cv_gl, cv_pi, cv_pw, cv_pa, cv_pl, zf_S, zf_i, zf_l, mz1, mz2, mz3, mz4, zr_ii, zr_iw, zr_ia, zr_il, zr_wi, zr_ww, zr_wa, zr_wl, zr_ai, zr_aw, zr_aa, zr_al, zr_li, zr_lw, zr_la, zr_ll, zw_ii, zw_ww, zw_aa, zw_ll, reduceIte, Nat.reduceEqDiff, if_true, if_false]; exact zup_at _ _ _
  try simp only [zl32, zl64, i32_add, i32_sub, i32_mul, i32_neg, i64_add, i64_sub, i64_mul, i64_neg, cv_gi, cv_gw, cv_ga, cv_gl, cv_pi, cv_pw, cv_pa, cv_pl, zf_S, zf_i, zf_l, mz1, mz2, mz3, mz4, zr_ii, zr_iw, zr_ia, zr_il, zr_wi, zr_ww, zr_wa, zr_wl, zr_ai, zr_aw, zr_aa, zr_al, zr_li, zr_lw, zr_la, zr_ll, zw_ii, zw_ww, zw_aa, zw_ll, reduceIte, Nat.reduceEqDiff, if_true, if_false]
  rw [zup_at]
  repeat' (first | (exfalso; omega) | (with_reducible refine zb_in ?_ ?_ ?_ ?_; omega; omega; omega) | (with_reducible refine zb_le ?_ ?_ ?_ ?_ (fun _ => ?_) (fun _ => ?_); omega; omega; omega; omega) | (with_reducible refine zb_lt ?_ ?_ ?_ ?_ (fun _ => ?_) (fun _ => ?_); omega; omega; omega; omega) | (with_reducible refine zb_eq ?_ ?_ ?_ ?_ (fun _ => ?_) (fun _ => ?_); omega; omega; omega; omega) | (with_reducible refine zb_leL ?_ ?_ ?_ ?_ (fun _ => ?_) (fun _ => ?_); omega; omega; omega; omega) | (with_reducible refine zb_ltL ?_ ?_ ?_ ?_ (fun _ => ?_) (fun _ => ?_); omega; omega; omega; omega) | (with_reducible refine zb_eqL ?_ ?_ ?_ ?_ (fun _ => ?_) (fun _ => ?_); omega; omega; omega; omega) | (with_reducible refine zb_nz ?_ ?_ ?_ ?_; omega; omega; omega) | (with_reducible refine zb_nzL ?_ ?_ ?_ ?_; omega; omega; omega) | with_reducible refine zb_ite ?_ | with_reducible refine zb_iteL ?_ | ((with_reducible intro y hy); subst hy; try simp only [zl32, zl64, i32_add, i32_sub, i32_mul, i32_neg, i64_add, i64_sub, i64_mul, i64_neg, cv_gi, cv_gw, cv_ga, cv_gl, cv_pi, cv_pw, cv_pa, cv_pl, zf_S, zf_i, zf_l, mz1, mz2, mz3, mz4, zr_ii, zr_iw, zr_ia, zr_il, zr_wi, zr_ww, zr_wa, zr_wl, zr_ai, zr_aw, zr_aa, zr_al, zr_li, zr_lw, zr_la, zr_ll, zw_ii, zw_ww, zw_aa, zw_ll, reduceIte, Nat.reduceEqDiff, if_true, if_false]) | with_reducible refine zb_o1 ?_ | with_reducible refine zb_o2 ?_ | with_reducible refine zb_o3 ?_ | with_reducible refine zb_o4 ?_ | with_reducible refine zb_tr ?_ | exact trivial | with_reducible refine zb_T ?_ | with_reducible refine zb_sp ?_ ?_)
  rw [i32_div (by omega) (by omega) (by omega) (by omega), hfg]
  try simp only [zl32, zl64, i32_add, i32_sub, i32_mul, i32_neg, i64_add, i64_sub, i64_mul, i64_neg, cv_gi, cv_gw, cv_ga, cv_gl, cv_pi, cv_pw, cv_pa, cv_pl, zf_S, zf_i, zf_l, mz1, mz2, mz3, mz4, zr_ii, zr_iw, zr_ia, zr_il, zr_wi, zr_ww, zr_wa, zr_wl, zr_ai, zr_aw, zr_aa, zr_al, zr_li, zr_lw, zr_la, zr_ll, zw_ii, zw_ww, zw_aa, zw_ll, reduceIte, Nat.reduceEqDiff, if_true, if_false]
  rw [← hslv]
  try simp (disch := omega) only [zi9, zi7, zi40, zi360, zikj, zijd, zi9o, zi7o, zip1, zip, zim1, i32_natN, ziL, zi_0, zi_1]
  rw [zup_at]
  obtain ⟨u2, hu2⟩ : ∃ u2, u2 = tsa u1 41 (zup (tga u1 41) s (zsl pa pts a b)) := ⟨_, rfl⟩
  rw [← hu2]
  have hf2 : zfr [] [36, 37, 38, 39, 40, 41] [] t u2 := by
    rw [hu2]
    exact zfr_sa (hf1.mono (by decide) (by decide) (by decide)) (by decide)
  refine sM_laysMonomial u2 pa (zsl pa pts a b) (hH.moved hf2 (by decide) (by decide) (by decide) (by decide) (by decide) (by decide)) hv hw (by omega) (by omega) _ ?_
  obtain ⟨sm, hsm⟩ : ∃ sm, sm = zvm pa (zsl pa pts a b) := ⟨_, rfl⟩
  rw [← hsm]
  obtain ⟨u3, hu3⟩ : ∃ u3, u3 = tsa u2 55 (zov 7 sm (tga u2 55)) := ⟨_, rfl⟩
  rw [← hu3]
  have hf3 : zfr [] [36, 37, 38, 39, 40, 41, 55] [] t u3 := by
    rw [hu3]
    exact zfr_sa (hf2.mono (by decide) (by decide) (by decide)) (by decide)
  -- the side's first numbers
  have q36 : tga u3 36 = zup (tga t 36) s a := by rw [hu3, hu2, hu1]; rfl
  have q37 : tga u3 37 = zup (tga t 37) s b := by rw [hu3, hu2, hu1]; rfl
  have q38 : tga u3 38 = zup (tga t 38) s (pts a - pts b) := by rw [hu3, hu2, hu1]; rfl
  have q40 : tga u3 40 = zup (tga t 40) s (zgd pts a b : Nat) := by rw [hu3, hu2, hu1]; rfl
  have q39 : tga u3 39 = zup (tga t 39) s (zrm pts a b : Nat) := by rw [hu3, hu2, hu1]; rfl
  have q41 : tga u3 41 = zup (tga t 41) s (zsl pa pts a b) := by rw [hu3, hu2, hu1]; rfl
  have q42 : tga u3 42 = tga t 42 := hf3.a 42 (by decide)
  have q43 : tga u3 43 = tga t 43 := hf3.a 43 (by decide)
  have q22 : tgi u3 22 = (s : Int) := by rw [hf3.i 22 (by decide)]; exact hs
  obtain ⟨re, hre⟩ : ∃ re : Nat → Int, re = fun k => if k ≤ zgd pts a b ∧ pts (a + k * zrm pts a b) = pts a - k * ((pts a - pts b) / (zgd pts a b : Int)) then zres (tgw t) (tgi t 0) pa (tgl t 19) sm (a + k * zrm pts a b) k else 0 := ⟨_, rfl⟩
  -- the residues
  have R : ∀ n k : Nat, k + n = 9 → ∀ u, zfr [56] [43, 55] [8] (tsa u3 42 (zwr (7 * s) 7 sm (tga t 42))) u → tga u 43 = zwr (9 * s) k re (tga t 43) → wM_laysSide_l153 Q (i32 (zpA pa (zpL pa))) (i32 a) (i32 s) (i32 (pts a - pts b)) (i32 (zgd pts a b : Nat)) (n + 1) (cv u) (i32 k) := by
    intro n
    induction n with
    | zero =>
      intro k hk u hu h43
      have hk : k = 9 := by omega
      subst hk
      have x22 : tgi u 22 = (s : Int) := by rw [hu.i 22 (by decide)]; exact q22
      have x42 : tga u 42 = zwr (7 * s) 7 sm (tga t 42) := by rw [hu.a 42 (by decide), zr_aa, if_pos rfl]
      have x36 : tga u 36 = zup (tga t 36) s a := by rw [hu.a 36 (by decide), zr_aa, if_neg (by decide)]; exact q36
      have x37 : tga u 37 = zup (tga t 37) s b := by rw [hu.a 37 (by decide), zr_aa, if_neg (by decide)]; exact q37
      have x38 : tga u 38 = zup (tga t 38) s (pts a - pts b) := by rw [hu.a 38 (by decide), zr_aa, if_neg (by decide)]; exact q38
      have x39 : tga u 39 = zup (tga t 39) s (zrm pts a b : Nat) := by rw [hu.a 39 (by decide), zr_aa, if_neg (by decide)]; exact q39
      have x40 : tga u 40 = zup (tga t 40) s (zgd pts a b : Nat) := by rw [hu.a 40 (by decide), zr_aa, if_neg (by decide)]; exact q40
      have x41 : tga u 41 = zup (tga t 41) s (zsl pa pts a b) := by rw [hu.a 41 (by decide), zr_aa, if_neg (by decide)]; exact q41
      rw [wM_laysSide_l153]
      try simp only [zl32, zl64, i32_add, i32_sub, i32_mul, i32_neg, i64_add, i64_sub, i64_mul, i64_neg, cv_gi, cv_gw, cv_ga, cv_gl, cv_pi, cv_pw, cv_pa, cv_pl, zf_S, zf_i, zf_l, mz1, mz2, mz3, mz4, zr_ii, zr_iw, zr_ia, zr_il, zr_wi, zr_ww, zr_wa, zr_wl, zr_ai, zr_aw, zr_aa, zr_al, zr_li, zr_lw, zr_la, zr_ll, zw_ii, zw_ww, zw_aa, zw_ll, reduceIte, Nat.reduceEqDiff, if_true, if_false]
      rw [x22]
      repeat' (first | (exfalso; omega) | (with_reducible refine zb_in ?_ ?_ ?_ ?_; omega; omega; omega) | (with_reducible refine zb_le ?_ ?_ ?_ ?_ (fun _ => ?_) (fun _ => ?_); omega; omega; omega; omega) | (with_reducible refine zb_lt ?_ ?_ ?_ ?_ (fun _ => ?_) (fun _ => ?_); omega; omega; omega; omega) | (with_reducible refine zb_eq ?_ ?_ ?_ ?_ (fun _ => ?_) (fun _ => ?_); omega; omega; omega; omega) | (with_reducible refine zb_leL ?_ ?_ ?_ ?_ (fun _ => ?_) (fun _ => ?_); omega; omega; omega; omega) | (with_reducible refine zb_ltL ?_ ?_ ?_ ?_ (fun _ => ?_) (fun _ => ?_); omega; omega; omega; omega) | (with_reducible refine zb_eqL ?_ ?_ ?_ ?_ (fun _ => ?_) (fun _ => ?_); omega; omega; omega; omega) | (with_reducible refine zb_nz ?_ ?_ ?_ ?_; omega; omega; omega) | (with_reducible refine zb_nzL ?_ ?_ ?_ ?_; omega; omega; omega) | with_reducible refine zb_ite ?_ | with_reducible refine zb_iteL ?_ | ((with_reducible intro y hy); subst hy; try simp only [zl32, zl64, i32_add, i32_sub, i32_mul, i32_neg, i64_add, i64_sub, i64_mul, i64_neg, cv_gi, cv_gw, cv_ga, cv_gl, cv_pi, cv_pw, cv_pa, cv_pl, zf_S, zf_i, zf_l, mz1, mz2, mz3, mz4, zr_ii, zr_iw, zr_ia, zr_il, zr_wi, zr_ww, zr_wa, zr_wl, zr_ai, zr_aw, zr_aa, zr_al, zr_li, zr_lw, zr_la, zr_ll, zw_ii, zw_ww, zw_aa, zw_ll, reduceIte, Nat.reduceEqDiff, if_true, if_false]) | with_reducible refine zb_o1 ?_ | with_reducible refine zb_o2 ?_ | with_reducible refine zb_o3 ?_ | with_reducible refine zb_o4 ?_ | with_reducible refine zb_tr ?_ | exact trivial | with_reducible refine zb_T ?_ | with_reducible refine zb_sp ?_ ?_)
      refine h _ ?_ ?_ ?_ ?_
      · refine zfr_pi ?_ (by decide)
        exact ((zfr_sa (hf3.mono (ki' := [22, 56]) (ka' := [36, 37, 38, 39, 40, 41, 42, 43, 55]) (kl' := [8]) (by decide) (by decide) (by decide)) (by decide))).trans (hu.mono (by decide) (by decide) (by decide))
      · try simp only [zl32, zl64, i32_add, i32_sub, i32_mul, i32_neg, i64_add, i64_sub, i64_mul, i64_neg, cv_gi, cv_gw, cv_ga, cv_gl, cv_pi, cv_pw, cv_pa, cv_pl, zf_S, zf_i, zf_l, mz1, mz2, mz3, mz4, zr_ii, zr_iw, zr_ia, zr_il, zr_wi, zr_ww, zr_wa, zr_wl, zr_ai, zr_aw, zr_aa, zr_al, zr_li, zr_lw, zr_la, zr_ll, zw_ii, zw_ww, zw_aa, zw_ll, reduceIte, Nat.reduceEqDiff, if_true, if_false]
      · refine ⟨?_, ?_, ?_, ?_, ?_, ?_, fun q hq => ?_, fun q hq => ?_⟩
        · rw [zr_ai, x36]; exact zup_at _ _ _
        · rw [zr_ai, x37]; exact zup_at _ _ _
        · rw [zr_ai, x38]; exact zup_at _ _ _
        · rw [zr_ai, x40]; exact zup_at _ _ _
        · rw [zr_ai, x39]; exact zup_at _ _ _
        · rw [zr_ai, x41]; exact zup_at _ _ _
        · rw [zr_ai, x42, zwr_at hq, hsm]; rfl
        · rw [zr_ai, h43, zwr_at hq, hre, hsm]; rfl
      · refine ⟨fun k k1 k2 q hq => ?_, fun q hq => ?_, fun q hq => ?_⟩
        · have : k = 36 ∨ k = 37 ∨ k = 38 ∨ k = 39 ∨ k = 40 ∨ k = 41 := by omega
          rw [zr_ai]
          rcases this with rfl | rfl | rfl | rfl | rfl | rfl
          · rw [x36, zup_ne _ _ (by omega)]
          · rw [x37, zup_ne _ _ (by omega)]
          · rw [x38, zup_ne _ _ (by omega)]
          · rw [x39, zup_ne _ _ (by omega)]
          · rw [x40, zup_ne _ _ (by omega)]
          · rw [x41, zup_ne _ _ (by omega)]
        · rw [zr_ai, x42, zwr_ne (Or.inl hq)]
        · rw [zr_ai, h43, zwr_ne (Or.inl hq)]
    | succ n ih =>
      intro k hk u hu h43
      have ihe := ih (k + 1) (by omega)
      have htu : zfr [22, 56] [36, 37, 38, 39, 40, 41, 42, 43, 55] [8] t u := ((zfr_sa (hf3.mono (ki' := [22, 56]) (ka' := [36, 37, 38, 39, 40, 41, 42, 43, 55]) (kl' := [8]) (by decide) (by decide) (by decide)) (by decide))).trans (hu.mono (by decide) (by decide) (by decide))
      have hptu : zPt u (zpA pa (zpL pa)) pts := ⟨hpt.1, fun i hi => by rw [htu.a 31 (by decide)]; exact hpt.2 i hi⟩
      have x39 : tga u 39 s = (zrm pts a b : Int) := by rw [hu.a 39 (by decide), zr_aa, if_neg (by decide), q39]; exact zup_at _ _ _
      have x42 : tga u 42 = zwr (7 * s) 7 sm (tga t 42) := by rw [hu.a 42 (by decide), zr_aa, if_pos rfl]
      have e0 := htu.i 0 (by decide)
      have ew : tgw u = tgw t := htu.1.symm
      have e19 : tgl u 19 = tgl t 19 := htu.l 19 (by decide)
      have hkr : ((a : Int) + (k : Int) * ((zrm pts a b : Nat) : Int)) = ((a + k * zrm pts a b : Nat) : Int) := by
        rw [Int.natCast_add, Int.natCast_mul]
      have hstep : ∀ v w, zfr [56] [43, 55] [8] (tsa u3 42 (zwr (7 * s) 7 sm (tga t 42))) v → tga v 43 = zwr (9 * s) k re (tga t 43) → w = re k → wM_laysSide_l153 Q (i32 (zpA pa (zpL pa))) (i32 a) (i32 s) (i32 (pts a - pts b)) (i32 (zgd pts a b : Nat)) (n + 1) (cv (tsa v 43 (zup (tga v 43) (9 * s + k) w))) (i32 (k + 1 : Nat)) := by
        intro v w hv1 hv2 hw1
        refine ihe _ (zfr_sa hv1 (by decide)) ?_
        rw [zr_aa, if_pos rfl, hv2, hw1, zwr_s]
      rw [wM_laysSide_l153]
      unfold wM_laysSide_j210 wM_laysSide_j211 wM_laysSide_j245
      try simp only [zl32, zl64, i32_add, i32_sub, i32_mul, i32_neg, i64_add, i64_sub, i64_mul, i64_neg, cv_gi, cv_gw, cv_ga, cv_gl, cv_pi, cv_pw, cv_pa, cv_pl, zf_S, zf_i, zf_l, mz1, mz2, mz3, mz4, zr_ii, zr_iw, zr_ia, zr_il, zr_wi, zr_ww, zr_wa, zr_wl, zr_ai, zr_aw, zr_aa, zr_al, zr_li, zr_lw, zr_la, zr_ll, zw_ii, zw_ww, zw_aa, zw_ll, reduceIte, Nat.reduceEqDiff, if_true, if_false]
      try simp (disch := omega) only [zi9, zi7, zi40, zi360, zikj, zijd, zi9o, zi7o, zip1, zip, zim1, i32_natN, ziL, zi_0, zi_1]
      rw [x39, hkr]
      repeat' (first | (exfalso; omega) | (with_reducible refine zb_in ?_ ?_ ?_ ?_; omega; omega; omega) | (with_reducible refine zb_le ?_ ?_ ?_ ?_ (fun _ => ?_) (fun _ => ?_); omega; omega; omega; omega) | (with_reducible refine zb_lt ?_ ?_ ?_ ?_ (fun _ => ?_) (fun _ => ?_); omega; omega; omega; omega) | (with_reducible refine zb_eq ?_ ?_ ?_ ?_ (fun _ => ?_) (fun _ => ?_); omega; omega; omega; omega) | (with_reducible refine zb_leL ?_ ?_ ?_ ?_ (fun _ => ?_) (fun _ => ?_); omega; omega; omega; omega) | (with_reducible refine zb_ltL ?_ ?_ ?_ ?_ (fun _ => ?_) (fun _ => ?_); omega; omega; omega; omega) | (with_reducible refine zb_eqL ?_ ?_ ?_ ?_ (fun _ => ?_) (fun _ => ?_); omega; omega; omega; omega) | (with_reducible refine zb_nz ?_ ?_ ?_ ?_; omega; omega; omega) | (with_reducible refine zb_nzL ?_ ?_ ?_ ?_; omega; omega; omega) | with_reducible refine zb_ite ?_ | with_reducible refine zb_iteL ?_ | ((with_reducible intro y hy); subst hy; try simp only [zl32, zl64, i32_add, i32_sub, i32_mul, i32_neg, i64_add, i64_sub, i64_mul, i64_neg, cv_gi, cv_gw, cv_ga, cv_gl, cv_pi, cv_pw, cv_pa, cv_pl, zf_S, zf_i, zf_l, mz1, mz2, mz3, mz4, zr_ii, zr_iw, zr_ia, zr_il, zr_wi, zr_ww, zr_wa, zr_wl, zr_ai, zr_aw, zr_aa, zr_al, zr_li, zr_lw, zr_la, zr_ll, zw_ii, zw_ww, zw_aa, zw_ll, reduceIte, Nat.reduceEqDiff, if_true, if_false]) | with_reducible refine zb_o1 ?_ | with_reducible refine zb_o2 ?_ | with_reducible refine zb_o3 ?_ | with_reducible refine zb_o4 ?_ | with_reducible refine zb_tr ?_ | exact trivial | with_reducible refine zb_T ?_ | with_reducible refine zb_sp ?_ ?_)
      · -- beyond
        try simp (disch := omega) only [zi9, zi7, zi40, zi360, zikj, zijd, zi9o, zi7o, zip1, zip, zim1, i32_natN, ziL, zi_0, zi_1]
        refine hstep u 0 hu h43 ?_
        rw [hre]
        dsimp only
        rw [if_neg (fun q => by have := q.1; omega)]
      · have hkg : k ≤ zgd pts a b := by omega
        have hkm : k * zrm pts a b ≤ b - a := by
          rw [← g3]
          exact Nat.mul_le_mul_right _ hkg
        refine sM_point0 u _ _ pts hptu (by omega) _ ?_
        refine sM_point0 u _ _ pts hptu (by omega) _ ?_
        have bi := hbb (a + k * zrm pts a b)
        have hk1 : 0 ≤ (k : Int) * ((pts a - pts b) / (zgd pts a b : Int)) := Int.mul_nonneg (by omega) (by omega)
        have hk2 : (k : Int) * ((pts a - pts b) / (zgd pts a b : Int)) ≤ pts a - pts b := by
          rw [← g5]
          have := Int.mul_le_mul_of_nonneg_right (show (k : Int) ≤ (zgd pts a b : Int) by omega) (show 0 ≤ (pts a - pts b) / (zgd pts a b : Int) by omega)
          rw [g5] at this ⊢
          exact this
        try simp only [zl32, zl64, i32_add, i32_sub, i32_mul, i32_neg, i64_add, i64_sub, i64_mul, i64_neg, cv_gi, cv_gw, cv_ga, cv_gl, cv_pi, cv_pw, cv_pa, cv_pl, zf_S, zf_i, zf_l, mz1, mz2, mz3, mz4]
        repeat' (first | (exfalso; omega) | (with_reducible refine zb_in ?_ ?_ ?_ ?_; omega; omega; omega) | (with_reducible refine zb_le ?_ ?_ ?_ ?_ (fun _ => ?_) (fun _ => ?_); omega; omega; omega; omega) | (with_reducible refine zb_lt ?_ ?_ ?_ ?_ (fun _ => ?_) (fun _ => ?_); omega; omega; omega; omega) | (with_reducible refine zb_eq ?_ ?_ ?_ ?_ (fun _ => ?_) (fun _ => ?_); omega; omega; omega; omega) | (with_reducible refine zb_leL ?_ ?_ ?_ ?_ (fun _ => ?_) (fun _ => ?_); omega; omega; omega; omega) | (with_reducible refine zb_ltL ?_ ?_ ?_ ?_ (fun _ => ?_) (fun _ => ?_); omega; omega; omega; omega) | (with_reducible refine zb_eqL ?_ ?_ ?_ ?_ (fun _ => ?_) (fun _ => ?_); omega; omega; omega; omega) | (with_reducible refine zb_nz ?_ ?_ ?_ ?_; omega; omega; omega) | (with_reducible refine zb_nzL ?_ ?_ ?_ ?_; omega; omega; omega) | with_reducible refine zb_ite ?_ | with_reducible refine zb_iteL ?_ | ((with_reducible intro y hy); subst hy; try simp only [zl32, zl64, i32_add, i32_sub, i32_mul, i32_neg, i64_add, i64_sub, i64_mul, i64_neg, cv_gi, cv_gw, cv_ga, cv_gl, cv_pi, cv_pw, cv_pa, cv_pl, zf_S, zf_i, zf_l, mz1, mz2, mz3, mz4, zr_ii, zr_iw, zr_ia, zr_il, zr_wi, zr_ww, zr_wa, zr_wl, zr_ai, zr_aw, zr_aa, zr_al, zr_li, zr_lw, zr_la, zr_ll, zw_ii, zw_ww, zw_aa, zw_ll, reduceIte, Nat.reduceEqDiff, if_true, if_false]) | with_reducible refine zb_o1 ?_ | with_reducible refine zb_o2 ?_ | with_reducible refine zb_o3 ?_ | with_reducible refine zb_o4 ?_ | with_reducible refine zb_tr ?_ | exact trivial | with_reducible refine zb_T ?_ | with_reducible refine zb_sp ?_ ?_)
        rw [i32_div (by omega) (by omega) (by omega) (by omega), hfg]
        try simp only [zl32, zl64, i32_add, i32_sub, i32_mul, i32_neg, i64_add, i64_sub, i64_mul, i64_neg, cv_gi, cv_gw, cv_ga, cv_gl, cv_pi, cv_pw, cv_pa, cv_pl, zf_S, zf_i, zf_l, mz1, mz2, mz3, mz4]
        repeat' (first | (exfalso; omega) | (with_reducible refine zb_in ?_ ?_ ?_ ?_; omega; omega; omega) | (with_reducible refine zb_le ?_ ?_ ?_ ?_ (fun _ => ?_) (fun _ => ?_); omega; omega; omega; omega) | (with_reducible refine zb_lt ?_ ?_ ?_ ?_ (fun _ => ?_) (fun _ => ?_); omega; omega; omega; omega) | (with_reducible refine zb_eq ?_ ?_ ?_ ?_ (fun _ => ?_) (fun _ => ?_); omega; omega; omega; omega) | (with_reducible refine zb_leL ?_ ?_ ?_ ?_ (fun _ => ?_) (fun _ => ?_); omega; omega; omega; omega) | (with_reducible refine zb_ltL ?_ ?_ ?_ ?_ (fun _ => ?_) (fun _ => ?_); omega; omega; omega; omega) | (with_reducible refine zb_eqL ?_ ?_ ?_ ?_ (fun _ => ?_) (fun _ => ?_); omega; omega; omega; omega) | (with_reducible refine zb_nz ?_ ?_ ?_ ?_; omega; omega; omega) | (with_reducible refine zb_nzL ?_ ?_ ?_ ?_; omega; omega; omega) | with_reducible refine zb_ite ?_ | with_reducible refine zb_iteL ?_ | ((with_reducible intro y hy); subst hy; try simp only [zl32, zl64, i32_add, i32_sub, i32_mul, i32_neg, i64_add, i64_sub, i64_mul, i64_neg, cv_gi, cv_gw, cv_ga, cv_gl, cv_pi, cv_pw, cv_pa, cv_pl, zf_S, zf_i, zf_l, mz1, mz2, mz3, mz4, zr_ii, zr_iw, zr_ia, zr_il, zr_wi, zr_ww, zr_wa, zr_wl, zr_ai, zr_aw, zr_aa, zr_al, zr_li, zr_lw, zr_la, zr_ll, zw_ii, zw_ww, zw_aa, zw_ll, reduceIte, Nat.reduceEqDiff, if_true, if_false]) | with_reducible refine zb_o1 ?_ | with_reducible refine zb_o2 ?_ | with_reducible refine zb_o3 ?_ | with_reducible refine zb_o4 ?_ | with_reducible refine zb_tr ?_ | exact trivial | with_reducible refine zb_T ?_ | with_reducible refine zb_sp ?_ ?_)
        · -- on the border
          have hon : pts (a + k * zrm pts a b) = pts a - k * ((pts a - pts b) / (zgd pts a b : Int)) := by assumption
          have hge : 0 ≤ zpts (tgw t) (tgi t 0) pa (tgl t 19) m (a + k * zrm pts a b) := by
            rw [← hpts]
            omega
          obtain ⟨o1, o2, o3, o4⟩ := zpts_on hv hge
          refine sM_residualAt u pa s (a + k * zrm pts a b) k sm (htu.PR (by decide) (by decide) hP) (hH.moved htu (by decide) (by decide) (by decide) (by decide) (by decide) (by decide)) (hK.moved htu (by decide)) (hM.moved htu (by decide) (by decide)) (by rw [ew]; exact hv) (by rw [e0]; exact hw) (by rw [ew, e19]; exact hits) hs64 (fun q hq => by rw [x42]; exact zwr_at hq) (fun q q1 q2 => by rw [hsm]; exact zvm_bd hv hw _ q q1) o2 (by omega) (by rw [ew, e0, e19]; exact o4) _ (fun v hv1 => ?_)
          rw [ew, e0, e19]
          try simp only [zl32, zl64, i32_add, i32_sub, i32_mul, i32_neg, i64_add, i64_sub, i64_mul, i64_neg, cv_gi, cv_gw, cv_ga, cv_gl, cv_pi, cv_pw, cv_pa, cv_pl, zf_S, zf_i, zf_l, mz1, mz2, mz3, mz4]
          try simp (disch := omega) only [zi9, zi7, zi40, zi360, zikj, zijd, zi9o, zi7o, zip1, zip, zim1, i32_natN, ziL, zi_0, zi_1]
          repeat' (first | (exfalso; omega) | (with_reducible refine zb_in ?_ ?_ ?_ ?_; omega; omega; omega) | (with_reducible refine zb_le ?_ ?_ ?_ ?_ (fun _ => ?_) (fun _ => ?_); omega; omega; omega; omega) | (with_reducible refine zb_lt ?_ ?_ ?_ ?_ (fun _ => ?_) (fun _ => ?_); omega; omega; omega; omega) | (with_reducible refine zb_eq ?_ ?_ ?_ ?_ (fun _ => ?_) (fun _ => ?_); omega; omega; omega; omega) | (with_reducible refine zb_leL ?_ ?_ ?_ ?_ (fun _ => ?_) (fun _ => ?_); omega; omega; omega; omega) | (with_reducible refine zb_ltL ?_ ?_ ?_ ?_ (fun _ => ?_) (fun _ => ?_); omega; omega; omega; omega) | (with_reducible refine zb_eqL ?_ ?_ ?_ ?_ (fun _ => ?_) (fun _ => ?_); omega; omega; omega; omega) | (with_reducible refine zb_nz ?_ ?_ ?_ ?_; omega; omega; omega) | (with_reducible refine zb_nzL ?_ ?_ ?_ ?_; omega; omega; omega) | with_reducible refine zb_ite ?_ | with_reducible refine zb_iteL ?_ | ((with_reducible intro y hy); subst hy; try simp only [zl32, zl64, i32_add, i32_sub, i32_mul, i32_neg, i64_add, i64_sub, i64_mul, i64_neg, cv_gi, cv_gw, cv_ga, cv_gl, cv_pi, cv_pw, cv_pa, cv_pl, zf_S, zf_i, zf_l, mz1, mz2, mz3, mz4, zr_ii, zr_iw, zr_ia, zr_il, zr_wi, zr_ww, zr_wa, zr_wl, zr_ai, zr_aw, zr_aa, zr_al, zr_li, zr_lw, zr_la, zr_ll, zw_ii, zw_ww, zw_aa, zw_ll, reduceIte, Nat.reduceEqDiff, if_true, if_false]) | with_reducible refine zb_o1 ?_ | with_reducible refine zb_o2 ?_ | with_reducible refine zb_o3 ?_ | with_reducible refine zb_o4 ?_ | with_reducible refine zb_tr ?_ | exact trivial | with_reducible refine zb_T ?_ | with_reducible refine zb_sp ?_ ?_)
          try simp only [zl32, zl64, i32_add, i32_sub, i32_mul, i32_neg, i64_add, i64_sub, i64_mul, i64_neg, cv_gi, cv_gw, cv_ga, cv_gl, cv_pi, cv_pw, cv_pa, cv_pl, zf_S, zf_i, zf_l, mz1, mz2, mz3, mz4]
          refine hstep v _ (hu.trans (hv1.mono (by decide) (by decide) (by decide))) (by rw [hv1.a 43 (by decide)]; exact h43) ?_
          rw [hre]
          dsimp only
          rw [if_pos ⟨hkg, hon⟩]
        · -- off the border
          try simp (disch := omega) only [zi9, zi7, zi40, zi360, zikj, zijd, zi9o, zi7o, zip1, zip, zim1, i32_natN, ziL, zi_0, zi_1]
          refine hstep u 0 hu h43 ?_
          rw [hre]
          dsimp only
          rw [if_neg (fun q => (by assumption : ¬ pts (a + k * zrm pts a b) = pts a - k * ((pts a - pts b) / (zgd pts a b : Int))) q.2)]
  -- the monomial is copied
  have C : ∀ n k : Nat, k + n = 7 → wM_laysSide_l117 Q (i32 (zpA pa (zpL pa))) (i32 a) (i32 s) (i32 (pts a - pts b)) (i32 (zgd pts a b : Nat)) (n + 1) (cv (tsa u3 42 (zwr (7 * s) k sm (tga t 42)))) (i32 k) := by
    intro n
    induction n with
    | zero =>
      intro k hk
      have hk : k = 7 := by omega
      subst hk
      rw [wM_laysSide_l117]
      try simp only [zl32, zl64, i32_add, i32_sub, i32_mul, i32_neg, i64_add, i64_sub, i64_mul, i64_neg, cv_gi, cv_gw, cv_ga, cv_gl, cv_pi, cv_pw, cv_pa, cv_pl, zf_S, zf_i, zf_l, mz1, mz2, mz3, mz4]
      repeat' (first | (exfalso; omega) | (with_reducible refine zb_in ?_ ?_ ?_ ?_; omega; omega; omega) | (with_reducible refine zb_le ?_ ?_ ?_ ?_ (fun _ => ?_) (fun _ => ?_); omega; omega; omega; omega) | (with_reducible refine zb_lt ?_ ?_ ?_ ?_ (fun _ => ?_) (fun _ => ?_); omega; omega; omega; omega) | (with_reducible refine zb_eq ?_ ?_ ?_ ?_ (fun _ => ?_) (fun _ => ?_); omega; omega; omega; omega) | (with_reducible refine zb_leL ?_ ?_ ?_ ?_ (fun _ => ?_) (fun _ => ?_); omega; omega; omega; omega) | (with_reducible refine zb_ltL ?_ ?_ ?_ ?_ (fun _ => ?_) (fun _ => ?_); omega; omega; omega; omega) | (with_reducible refine zb_eqL ?_ ?_ ?_ ?_ (fun _ => ?_) (fun _ => ?_); omega; omega; omega; omega) | (with_reducible refine zb_nz ?_ ?_ ?_ ?_; omega; omega; omega) | (with_reducible refine zb_nzL ?_ ?_ ?_ ?_; omega; omega; omega) | with_reducible refine zb_ite ?_ | with_reducible refine zb_iteL ?_ | ((with_reducible intro y hy); subst hy; try simp only [zl32, zl64, i32_add, i32_sub, i32_mul, i32_neg, i64_add, i64_sub, i64_mul, i64_neg, cv_gi, cv_gw, cv_ga, cv_gl, cv_pi, cv_pw, cv_pa, cv_pl, zf_S, zf_i, zf_l, mz1, mz2, mz3, mz4, zr_ii, zr_iw, zr_ia, zr_il, zr_wi, zr_ww, zr_wa, zr_wl, zr_ai, zr_aw, zr_aa, zr_al, zr_li, zr_lw, zr_la, zr_ll, zw_ii, zw_ww, zw_aa, zw_ll, reduceIte, Nat.reduceEqDiff, if_true, if_false]) | with_reducible refine zb_o1 ?_ | with_reducible refine zb_o2 ?_ | with_reducible refine zb_o3 ?_ | with_reducible refine zb_o4 ?_ | with_reducible refine zb_tr ?_ | exact trivial | with_reducible refine zb_T ?_ | with_reducible refine zb_sp ?_ ?_)
      refine ⟨10, R 9 0 rfl _ (zfr.refl _) ?_⟩
      rw [zr_aa, if_neg (by decide), q43, zwr_0]
    | succ n ih =>
      intro k hk
      have e := ih (k + 1) (by omega)
      rw [← zwr_s] at e
      have h55 : tga u3 55 k = sm k := by
        rw [hu3, zr_aa, if_pos rfl]
        exact zov_at (by omega)
      rw [wM_laysSide_l117]
      try simp only [zl32, zl64, i32_add, i32_sub, i32_mul, i32_neg, i64_add, i64_sub, i64_mul, i64_neg, cv_gi, cv_gw, cv_ga, cv_gl, cv_pi, cv_pw, cv_pa, cv_pl, zf_S, zf_i, zf_l, mz1, mz2, mz3, mz4, zr_ii, zr_iw, zr_ia, zr_il, zr_wi, zr_ww, zr_wa, zr_wl, zr_ai, zr_aw, zr_aa, zr_al, zr_li, zr_lw, zr_la, zr_ll, zw_ii, zw_ww, zw_aa, zw_ll, reduceIte, Nat.reduceEqDiff, if_true, if_false]
      try simp (disch := omega) only [zi9, zi7, zi40, zi360, zikj, zijd, zi9o, zi7o, zip1, zip, zim1, i32_natN, ziL, zi_0, zi_1]
      rw [h55]
      repeat' (first | (exfalso; omega) | (with_reducible refine zb_in ?_ ?_ ?_ ?_; omega; omega; omega) | (with_reducible refine zb_le ?_ ?_ ?_ ?_ (fun _ => ?_) (fun _ => ?_); omega; omega; omega; omega) | (with_reducible refine zb_lt ?_ ?_ ?_ ?_ (fun _ => ?_) (fun _ => ?_); omega; omega; omega; omega) | (with_reducible refine zb_eq ?_ ?_ ?_ ?_ (fun _ => ?_) (fun _ => ?_); omega; omega; omega; omega) | (with_reducible refine zb_leL ?_ ?_ ?_ ?_ (fun _ => ?_) (fun _ => ?_); omega; omega; omega; omega) | (with_reducible refine zb_ltL ?_ ?_ ?_ ?_ (fun _ => ?_) (fun _ => ?_); omega; omega; omega; omega) | (with_reducible refine zb_eqL ?_ ?_ ?_ ?_ (fun _ => ?_) (fun _ => ?_); omega; omega; omega; omega) | (with_reducible refine zb_nz ?_ ?_ ?_ ?_; omega; omega; omega) | (with_reducible refine zb_nzL ?_ ?_ ?_ ?_; omega; omega; omega) | with_reducible refine zb_ite ?_ | with_reducible refine zb_iteL ?_ | ((with_reducible intro y hy); subst hy; try simp only [zl32, zl64, i32_add, i32_sub, i32_mul, i32_neg, i64_add, i64_sub, i64_mul, i64_neg, cv_gi, cv_gw, cv_ga, cv_gl, cv_pi, cv_pw, cv_pa, cv_pl, zf_S, zf_i, zf_l, mz1, mz2, mz3, mz4, zr_ii, zr_iw, zr_ia, zr_il, zr_wi, zr_ww, zr_wa, zr_wl, zr_ai, zr_aw, zr_aa, zr_al, zr_li, zr_lw, zr_la, zr_ll, zw_ii, zw_ww, zw_aa, zw_ll, reduceIte, Nat.reduceEqDiff, if_true, if_false]) | with_reducible refine zb_o1 ?_ | with_reducible refine zb_o2 ?_ | with_reducible refine zb_o3 ?_ | with_reducible refine zb_o4 ?_ | with_reducible refine zb_tr ?_ | exact trivial | with_reducible refine zb_T ?_ | with_reducible refine zb_sp ?_ ?_)
      exact e
  have e := C 7 0 rfl
  rw [zwr_0, ← q42, zw_a0] at e
  exact ⟨8, e⟩
