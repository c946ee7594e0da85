/-! PURE 18: the model's sides, all of a knot -/
set_option maxRecDepth 100000
theorem zixa_bd {pts : Nat → Int} (hb : zpb pts) {a b : Nat} {low : Int} (hab : a < b) (hf : pts b < pts a) (hl : 0 ≤ low) (hbn : b ≤ 8) : ∀ c : Nat, max a 1 + c ≤ b → 0 ≤ zixa pts a b low c ∧ zixa pts a b low c ≤ c * 300000 := by
  intro c
  induction c with
  | zero => intro _; exact ⟨Int.le_refl _, by unfold zixa; omega⟩
  | succ c ih =>
    intro hc
    have e := ih (by omega)
    have ba := hb a
    have bb := hb b
    have x1 : 0 ≤ (pts a - pts b) * (((max a 1 + c : Nat) : Int) - a) := Int.mul_nonneg (by omega) (by omega)
    have x2 : 0 ≤ ((pts a - pts b) * (((max a 1 + c : Nat) : Int) - a) + (b : Int) - a - 1) / ((b : Int) - a) := Int.ediv_nonneg (by omega) (by omega)
    unfold zixa
    revert x2
    generalize ((pts a - pts b) * (((max a 1 + c : Nat) : Int) - a) + (b : Int) - a - 1) / ((b : Int) - a) = y
    intro x2
    by_cases c1 : pts a - y - low ≤ 0
    · rw [if_pos c1]; omega
    · rw [if_neg c1]; omega
theorem zfr_a1 {t u : tS} {ki ka kl : List Nat} (h : zfr ki ka kl t u) (k : Nat) (f : Nat → Int) (hk : tga u k = f) : u = tsa u k f := by
  rw [← hk, zw_a0]
theorem zup_zup (f : Nat → Int) (k : Nat) (v w : Int) : zup (zup f k v) k w = zup f k w := by
  funext q
  unfold zup
  by_cases c : q = k
  · rw [if_pos c, if_pos c]
  · rw [if_neg c, if_neg c, if_neg c]
theorem sM_sides_l155 (kn a b : Nat) (pts : Nat → Int) (low : Int) (hb : zpb pts) (hab : a < b) (hf : pts b < pts a) (hl : 0 ≤ low) (hlm : low ≤ 300000) (hbn : b ≤ 8) (rec99 : mS → Int32 → Prop) (Q : mS → Prop) (x3 : Int32) (hkn : kn < 40) : ∀ (n c : Nat) (t : tS) (acc : Int), zPt t kn pts → max a 1 + c + n = max b 1 → tga t 30 kn = acc + zixa pts a b low c → 0 ≤ acc → acc ≤ 100000000 →
    (rec99 (cv (tsa t 30 (zup (tga t 30) kn (acc + zixa pts a b low (max b 1 - max a 1))))) (i32 b)) →
    wM_laysSides_l155 rec99 Q (i32 kn) x3 (i32 low) (i32 a) (i32 b) (i32 (pts a - pts b)) (n + 1) (cv t) (i32 (max a 1 + c : Nat)) := by
  have ba := hb a
  have bb := hb b
  intro n
  induction n with
  | zero =>
    intro c t acc hpt hc ht ha0 ha1 h
    have hc' : c = max b 1 - max a 1 := by omega
    rw [← hc', ← ht, show zup (tga t 30) kn (tga t 30 kn) = tga t 30 by
      funext q
      unfold zup
      by_cases c : q = kn
      · rw [if_pos c, c]
      · rw [if_neg c], zw_a0] at h
    rw [wM_laysSides_l155]
    try simp only [zl32, zl64, i32_add, i32_sub, i32_mul, i32_neg, i64_add, i64_sub, i64_mul, i64_neg, cv_gi, cv_gw, cv_ga, cv_gl, cv_pi, cv_pw, cv_pa, cv_pl, zf_S, zf_i, zf_l, mz1, mz2, mz3, mz4]
    repeat' (first | (exfalso; omega) | (with_reducible refine zb_in ?_ ?_ ?_ ?_; omega; omega; omega) | (with_reducible refine zb_le ?_ ?_ ?_ ?_ (fun _ => ?_) (fun _ => ?_); omega; omega; omega; omega) | (with_reducible refine zb_lt ?_ ?_ ?_ ?_ (fun _ => ?_) (fun _ => ?_); omega; omega; omega; omega) | (with_reducible refine zb_eq ?_ ?_ ?_ ?_ (fun _ => ?_) (fun _ => ?_); omega; omega; omega; omega) | (with_reducible refine zb_leL ?_ ?_ ?_ ?_ (fun _ => ?_) (fun _ => ?_); omega; omega; omega; omega) | (with_reducible refine zb_ltL ?_ ?_ ?_ ?_ (fun _ => ?_) (fun _ => ?_); omega; omega; omega; omega) | (with_reducible refine zb_eqL ?_ ?_ ?_ ?_ (fun _ => ?_) (fun _ => ?_); omega; omega; omega; omega) | (with_reducible refine zb_nz ?_ ?_ ?_ ?_; omega; omega; omega) | (with_reducible refine zb_nzL ?_ ?_ ?_ ?_; omega; omega; omega) | with_reducible refine zb_ite ?_ | with_reducible refine zb_iteL ?_ | ((with_reducible intro y hy); subst hy; try simp only [zl32, zl64, i32_add, i32_sub, i32_mul, i32_neg, i64_add, i64_sub, i64_mul, i64_neg, cv_gi, cv_gw, cv_ga, cv_gl, cv_pi, cv_pw, cv_pa, cv_pl, zf_S, zf_i, zf_l, mz1, mz2, mz3, mz4, zr_ii, zr_iw, zr_ia, zr_il, zr_wi, zr_ww, zr_wa, zr_wl, zr_ai, zr_aw, zr_aa, zr_al, zr_li, zr_lw, zr_la, zr_ll, zw_ii, zw_ww, zw_aa, zw_ll, reduceIte, Nat.reduceEqDiff, if_true, if_false]) | with_reducible refine zb_o1 ?_ | with_reducible refine zb_o2 ?_ | with_reducible refine zb_o3 ?_ | with_reducible refine zb_o4 ?_ | with_reducible refine zb_tr ?_ | exact trivial | with_reducible refine zb_T ?_ | with_reducible refine zb_sp ?_ ?_)
    exact h
  | succ n ih =>
    intro c t acc hpt hc ht ha0 ha1 h
    have e := zixa_bd hb hab hf hl hbn c (by omega)
    have e2 := zixa_bd hb hab hf hl hbn (c + 1) (by omega)
    have x1 : 0 ≤ (pts a - pts b) * (((max a 1 + c : Nat) : Int) - a) := Int.mul_nonneg (by omega) (by omega)
    have x1b : (pts a - pts b) * (((max a 1 + c : Nat) : Int) - a) ≤ 300001 * 8 := Int.mul_le_mul (by omega) (by omega) (by omega) (by omega)
    have x2 : 0 ≤ ((pts a - pts b) * (((max a 1 + c : Nat) : Int) - a) + (b : Int) - a - 1) / ((b : Int) - a) := Int.ediv_nonneg (by omega) (by omega)
    have x3' : ((pts a - pts b) * (((max a 1 + c : Nat) : Int) - a) + (b : Int) - a - 1) / ((b : Int) - a) ≤ (pts a - pts b) * (((max a 1 + c : Nat) : Int) - a) + (b : Int) - a - 1 := Int.ediv_le_self _ (by omega)
    have hstep : ∀ w, w = zixa pts a b low (c + 1) → wM_laysSides_l155 rec99 Q (i32 kn) x3 (i32 low) (i32 a) (i32 b) (i32 (pts a - pts b)) (n + 1) (cv (tsa t 30 (zup (tga t 30) kn (acc + w)))) (i32 (max a 1 + (c + 1) : Nat)) := by
      intro w hw
      refine ih (c + 1) _ acc hpt (by omega) (by rw [zr_aa, if_pos rfl, zup_at, hw]) ha0 ha1 ?_
      rw [zr_aa, if_pos rfl, zw_aa, zup_zup]
      exact h
    have eI : ((max a 1 + c : Nat) : Int) + 1 = ((max a 1 + (c + 1) : Nat) : Int) := by omega
    rw [wM_laysSides_l155]
    try simp only [zl32, zl64, i32_add, i32_sub, i32_mul, i32_neg, i64_add, i64_sub, i64_mul, i64_neg, cv_gi, cv_gw, cv_ga, cv_gl, cv_pi, cv_pw, cv_pa, cv_pl, zf_S, zf_i, zf_l, mz1, mz2, mz3, mz4]
    repeat' (first | (exfalso; omega) | (with_reducible refine zb_in ?_ ?_ ?_ ?_; omega; omega; omega) | (with_reducible refine zb_le ?_ ?_ ?_ ?_ (fun _ => ?_) (fun _ => ?_); omega; omega; omega; omega) | (with_reducible refine zb_lt ?_ ?_ ?_ ?_ (fun _ => ?_) (fun _ => ?_); omega; omega; omega; omega) | (with_reducible refine zb_eq ?_ ?_ ?_ ?_ (fun _ => ?_) (fun _ => ?_); omega; omega; omega; omega) | (with_reducible refine zb_leL ?_ ?_ ?_ ?_ (fun _ => ?_) (fun _ => ?_); omega; omega; omega; omega) | (with_reducible refine zb_ltL ?_ ?_ ?_ ?_ (fun _ => ?_) (fun _ => ?_); omega; omega; omega; omega) | (with_reducible refine zb_eqL ?_ ?_ ?_ ?_ (fun _ => ?_) (fun _ => ?_); omega; omega; omega; omega) | (with_reducible refine zb_nz ?_ ?_ ?_ ?_; omega; omega; omega) | (with_reducible refine zb_nzL ?_ ?_ ?_ ?_; omega; omega; omega) | with_reducible refine zb_ite ?_ | with_reducible refine zb_iteL ?_ | ((with_reducible intro y hy); subst hy; try simp only [zl32, zl64, i32_add, i32_sub, i32_mul, i32_neg, i64_add, i64_sub, i64_mul, i64_neg, cv_gi, cv_gw, cv_ga, cv_gl, cv_pi, cv_pw, cv_pa, cv_pl, zf_S, zf_i, zf_l, mz1, mz2, mz3, mz4, zr_ii, zr_iw, zr_ia, zr_il, zr_wi, zr_ww, zr_wa, zr_wl, zr_ai, zr_aw, zr_aa, zr_al, zr_li, zr_lw, zr_la, zr_ll, zw_ii, zw_ww, zw_aa, zw_ll, reduceIte, Nat.reduceEqDiff, if_true, if_false]) | with_reducible refine zb_o1 ?_ | with_reducible refine zb_o2 ?_ | with_reducible refine zb_o3 ?_ | with_reducible refine zb_o4 ?_ | with_reducible refine zb_tr ?_ | exact trivial | with_reducible refine zb_T ?_ | with_reducible refine zb_sp ?_ ?_)
    refine sM_point0 t kn a pts hpt (by omega) _ ?_
    try simp only [zl32, zl64, i32_add, i32_sub, i32_mul, i32_neg, i64_add, i64_sub, i64_mul, i64_neg, cv_gi, cv_gw, cv_ga, cv_gl, cv_pi, cv_pw, cv_pa, cv_pl, zf_S, zf_i, zf_l, mz1, mz2, mz3, mz4]
    rw [i32_div (by omega) (by omega) (by omega) (by omega), ze_tdivn (by omega)]
    try simp only [zl32, zl64, i32_add, i32_sub, i32_mul, i32_neg, i64_add, i64_sub, i64_mul, i64_neg, cv_gi, cv_gw, cv_ga, cv_gl, cv_pi, cv_pw, cv_pa, cv_pl, zf_S, zf_i, zf_l, mz1, mz2, mz3, mz4, zr_ii, zr_iw, zr_ia, zr_il, zr_wi, zr_ww, zr_wa, zr_wl, zr_ai, zr_aw, zr_aa, zr_al, zr_li, zr_lw, zr_la, zr_ll, zw_ii, zw_ww, zw_aa, zw_ll, reduceIte, Nat.reduceEqDiff, if_true, if_false]
    unfold zixa at hstep
    revert x2 x3' hstep
    generalize hy : ((pts a - pts b) * (((max a 1 + c : Nat) : Int) - a) + (b : Int) - a - 1) / ((b : Int) - a) = y
    intro x2 x3' hstep
    try simp (disch := omega) only [zi9, zi7, zi40, zi360, zikj, zijd, zi9o, zi7o, zip1, zip, zim1, i32_natN, ziL, zi_0, zi_1]
    rw [ht]
    repeat' (first | (exfalso; omega) | (with_reducible refine zb_in ?_ ?_ ?_ ?_; omega; omega; omega) | (with_reducible refine zb_le ?_ ?_ ?_ ?_ (fun _ => ?_) (fun _ => ?_); omega; omega; omega; omega) | (with_reducible refine zb_lt ?_ ?_ ?_ ?_ (fun _ => ?_) (fun _ => ?_); omega; omega; omega; omega) | (with_reducible refine zb_eq ?_ ?_ ?_ ?_ (fun _ => ?_) (fun _ => ?_); omega; omega; omega; omega) | (with_reducible refine zb_leL ?_ ?_ ?_ ?_ (fun _ => ?_) (fun _ => ?_); omega; omega; omega; omega) | (with_reducible refine zb_ltL ?_ ?_ ?_ ?_ (fun _ => ?_) (fun _ => ?_); omega; omega; omega; omega) | (with_reducible refine zb_eqL ?_ ?_ ?_ ?_ (fun _ => ?_) (fun _ => ?_); omega; omega; omega; omega) | (with_reducible refine zb_nz ?_ ?_ ?_ ?_; omega; omega; omega) | (with_reducible refine zb_nzL ?_ ?_ ?_ ?_; omega; omega; omega) | with_reducible refine zb_ite ?_ | with_reducible refine zb_iteL ?_ | ((with_reducible intro y hy); subst hy; try simp only [zl32, zl64, i32_add, i32_sub, i32_mul, i32_neg, i64_add, i64_sub, i64_mul, i64_neg, cv_gi, cv_gw, cv_ga, cv_gl, cv_pi, cv_pw, cv_pa, cv_pl, zf_S, zf_i, zf_l, mz1, mz2, mz3, mz4, zr_ii, zr_iw, zr_ia, zr_il, zr_wi, zr_ww, zr_wa, zr_wl, zr_ai, zr_aw, zr_aa, zr_al, zr_li, zr_lw, zr_la, zr_ll, zw_ii, zw_ww, zw_aa, zw_ll, reduceIte, Nat.reduceEqDiff, if_true, if_false]) | with_reducible refine zb_o1 ?_ | with_reducible refine zb_o2 ?_ | with_reducible refine zb_o3 ?_ | with_reducible refine zb_o4 ?_ | with_reducible refine zb_tr ?_ | exact trivial | with_reducible refine zb_T ?_ | with_reducible refine zb_sp ?_ ?_)
    · try simp (disch := omega) only [zi9, zi7, zi40, zi360, zikj, zijd, zi9o, zi7o, zip1, zip, zim1, i32_natN, ziL, zi_0, zi_1]
      have s := hstep (zixa pts a b low c + 0) (by rw [if_pos (by assumption)])
      rw [eI]
      rw [Int.add_assoc]
      exact s
    · try simp (disch := omega) only [zi9, zi7, zi40, zi360, zikj, zijd, zi9o, zi7o, zip1, zip, zim1, i32_natN, ziL, zi_0, zi_1]
      have s := hstep (zixa pts a b low c + (pts a - y - low)) (by rw [if_neg (by assumption)])
      rw [eI, Int.add_assoc]
      exact s
theorem zixs_nn {pts : Nat → Int} {low : Int} (hb : zpb pts) (hl : 0 ≤ low) : ∀ xs : List (Nat × Nat), (∀ x, x ∈ xs → x.1 < x.2 ∧ pts x.2 < pts x.1 ∧ x.2 ≤ 8) → 0 ≤ zixs pts low xs ∧ zixs pts low xs ≤ xs.length * 2400000 := by
  intro xs
  induction xs with
  | nil => intro _; exact ⟨Int.le_refl _, by unfold zixs; omega⟩
  | cons x xs ih =>
    intro h
    have e := ih (fun y hy => h y (List.mem_cons_of_mem _ hy))
    have hx := h x List.mem_cons_self
    have e2 := zixa_bd hb (low := low) hx.1 hx.2.1 hl hx.2.2 (x.2 - max x.1 1) (by omega)
    have e3 : (((x.2 - max x.1 1 : Nat) : Int)) * 300000 ≤ 8 * 300000 := by omega
    unfold zixs
    unfold zix
    rw [List.length_cons]
    omega
/-- the border's corners -/
theorem zhl_ok {pts : Nat → Int} {z m : Nat} (hz : 0 ≤ pts z) (hzm : z ≤ m) : ∀ (n a : Nat), z ≤ a → a ≤ zlow pts z m → 0 ≤ pts a → (∀ x, x ∈ zhl pts (zlow pts z m) n a → a ≤ x.1 ∧ x.1 < x.2 ∧ x.2 ≤ zlow pts z m ∧ pts x.2 < pts x.1 ∧ 0 ≤ pts x.2) ∧ ((zhl pts (zlow pts z m) n a).length + a ≤ zlow pts z m) := by
  have hl := zlst_ok pts z hz (m + 1 - z)
  intro n
  induction n with
  | zero => intro a _ h2 _; exact ⟨fun x hx => (by cases hx), by unfold zhl; rw [List.length_nil]; omega⟩
  | succ n ih =>
    intro a h1 h2 h3
    unfold zhl
    by_cases c : a < zlow pts z m
    · rw [if_pos c]
      have hlt : pts (zlow pts z m) < pts a := (hl.2.2.2 a h1 (by have := hl.2.1; unfold zlow at c; omega) h3).2 c
      obtain ⟨b, e, b1, b2, b3, b4⟩ := znc_fall c hl.2.2.1 hlt
      rw [e, Int.toNat_natCast]
      have r := ih b (by omega) b2 b3
      refine ⟨fun x hx => ?_, by rw [List.length_cons]; have := r.2; omega⟩
      rcases List.mem_cons.mp hx with rfl | hx
      · exact ⟨Nat.le_refl _, b1, b2, b4, b3⟩
      · have := r.1 x hx
        omega
    · rw [if_neg c]
      exact ⟨fun x hx => (by cases hx), by rw [List.length_nil]; omega⟩
theorem sM_sides_l99 (t : tS) (pa : zP) (m z : Nat) (pts : Nat → Int) (hpts : pts = zpts (tgw t) (tgi t 0) pa (tgl t 19) m) (hm8 : m ≤ 8) (hP : zPR t) (hH : zHd t pa) (hK : zKy t pa) (hM : zMd t pa) (hv : zPv (tgw t) pa) (hw : zPw (tgi t 0) pa) (hits : zred (tgw t) 9 (tgl t 19)) (hpt : zPt t (zpA pa (zpL pa)) pts) (hz : 0 ≤ pts z) (hzm : z ≤ m) (S : Nat) (h27 : tga t 27 (zpA pa (zpL pa)) = (S : Int)) (Q : mS → Prop) :
    ∀ (n a s : Nat) (acc : Int) (u : tS), z ≤ a → a ≤ zlow pts z m → 0 ≤ pts a → zlow pts z m ≤ a + n → zfr [22, 56] [30, 36, 37, 38, 39, 40, 41, 42, 43, 55] [8] t u → tgi u 22 = (s : Int) → S ≤ s → s + (zhl pts (zlow pts z m) n a).length ≤ 64 → tga u 30 = zup (tga t 30) (zpA pa (zpL pa)) acc → 0 ≤ acc → acc ≤ (a : Int) * 2400000 →
      (∀ v, zfr [22, 56] [28, 30, 36, 37, 38, 39, 40, 41, 42, 43, 55] [8] u v → tgi v 22 = ((s + (zhl pts (zlow pts z m) n a).length : Nat) : Int) → (∀ (j : Nat) (x : Nat × Nat), (zhl pts (zlow pts z m) n a)[j]? = some x → zSA v (s + j) (zside (tgw t) (tgi t 0) pa (tgl t 19) pts x)) → zSk u v s → tga v 30 = zup (tga t 30) (zpA pa (zpL pa)) (acc + zixs pts (pts (zlow pts z m)) (zhl pts (zlow pts z m) n a)) → tga v 28 = zup (tga u 28) (zpA pa (zpL pa)) ((s + (zhl pts (zlow pts z m) n a).length : Nat) - S : Int) → Q (cv v)) →
      wM_laysSides_l99 Q (i32 (zpA pa (zpL pa))) (i32 (zlow pts z m)) (i32 (pts (zlow pts z m))) (n + 1) (cv u) (i32 a) := by
  have hkn := hpt.1
  have hl := zlst_ok pts z hz (m + 1 - z)
  have hbb : zpb pts := by rw [hpts]; exact zpts_bd hv hm8
  have hlm : zlow pts z m ≤ m := by
    have := hl.2.1
    unfold zlow
    omega
  have hend : ∀ (a s : Nat) (acc : Int) (u : tS) (n : Nat), zlow pts z m ≤ a → a ≤ zlow pts z m → zfr [22, 56] [30, 36, 37, 38, 39, 40, 41, 42, 43, 55] [8] t u → tgi u 22 = (s : Int) → S ≤ s → s ≤ 64 → tga u 30 = zup (tga t 30) (zpA pa (zpL pa)) acc → (∀ v, zfr [22, 56] [28, 30, 36, 37, 38, 39, 40, 41, 42, 43, 55] [8] u v → tgi v 22 = (s : Int) → zSk u v s → tga v 30 = zup (tga t 30) (zpA pa (zpL pa)) acc → tga v 28 = zup (tga u 28) (zpA pa (zpL pa)) ((s : Int) - S) → Q (cv v)) → wM_laysSides_l99 Q (i32 (zpA pa (zpL pa))) (i32 (zlow pts z m)) (i32 (pts (zlow pts z m))) (n + 1) (cv u) (i32 a) := by
    intro a s acc u n h1 h1' hu hs hS hs64 h30 h
    have u27 : tga u 27 = tga t 27 := hu.a 27 (by decide)
    rw [wM_laysSides_l99]
    try simp only [zl32, zl64, i32_add, i32_sub, i32_mul, i32_neg, i64_add, i64_sub, i64_mul, i64_neg, cv_gi, cv_gw, cv_ga, cv_gl, cv_pi, cv_pw, cv_pa, cv_pl, zf_S, zf_i, zf_l, mz1, mz2, mz3, mz4, zr_ii, zr_iw, zr_ia, zr_il, zr_wi, zr_ww, zr_wa, zr_wl, zr_ai, zr_aw, zr_aa, zr_al, zr_li, zr_lw, zr_la, zr_ll, zw_ii, zw_ww, zw_aa, zw_ll, reduceIte, Nat.reduceEqDiff, if_true, if_false]
    rw [hs]
    try simp (disch := omega) only [zi9, zi7, zi40, zi360, zikj, zijd, zi9o, zi7o, zip1, zip, zim1, i32_natN, ziL, zi_0, zi_1]
    rw [u27, h27]
    repeat' (first | (exfalso; omega) | (with_reducible refine zb_in ?_ ?_ ?_ ?_; omega; omega; omega) | (with_reducible refine zb_le ?_ ?_ ?_ ?_ (fun _ => ?_) (fun _ => ?_); omega; omega; omega; omega) | (with_reducible refine zb_lt ?_ ?_ ?_ ?_ (fun _ => ?_) (fun _ => ?_); omega; omega; omega; omega) | (with_reducible refine zb_eq ?_ ?_ ?_ ?_ (fun _ => ?_) (fun _ => ?_); omega; omega; omega; omega) | (with_reducible refine zb_leL ?_ ?_ ?_ ?_ (fun _ => ?_) (fun _ => ?_); omega; omega; omega; omega) | (with_reducible refine zb_ltL ?_ ?_ ?_ ?_ (fun _ => ?_) (fun _ => ?_); omega; omega; omega; omega) | (with_reducible refine zb_eqL ?_ ?_ ?_ ?_ (fun _ => ?_) (fun _ => ?_); omega; omega; omega; omega) | (with_reducible refine zb_nz ?_ ?_ ?_ ?_; omega; omega; omega) | (with_reducible refine zb_nzL ?_ ?_ ?_ ?_; omega; omega; omega) | with_reducible refine zb_ite ?_ | with_reducible refine zb_iteL ?_ | ((with_reducible intro y hy); subst hy; try simp only [zl32, zl64, i32_add, i32_sub, i32_mul, i32_neg, i64_add, i64_sub, i64_mul, i64_neg, cv_gi, cv_gw, cv_ga, cv_gl, cv_pi, cv_pw, cv_pa, cv_pl, zf_S, zf_i, zf_l, mz1, mz2, mz3, mz4, zr_ii, zr_iw, zr_ia, zr_il, zr_wi, zr_ww, zr_wa, zr_wl, zr_ai, zr_aw, zr_aa, zr_al, zr_li, zr_lw, zr_la, zr_ll, zw_ii, zw_ww, zw_aa, zw_ll, reduceIte, Nat.reduceEqDiff, if_true, if_false]) | with_reducible refine zb_o1 ?_ | with_reducible refine zb_o2 ?_ | with_reducible refine zb_o3 ?_ | with_reducible refine zb_o4 ?_ | with_reducible refine zb_tr ?_ | exact trivial | with_reducible refine zb_T ?_ | with_reducible refine zb_sp ?_ ?_)
    refine h _ (zfr_sa (zfr.refl u) (by decide)) (by rw [zr_ia]; exact hs) ⟨fun k k1 k2 q hq => by rw [zr_aa, if_neg (by omega)], fun q hq => by rw [zr_aa, if_neg (by omega)], fun q hq => by rw [zr_aa, if_neg (by omega)]⟩ (by rw [zr_aa, if_neg (by decide)]; exact h30) (by rw [zr_aa, if_pos rfl])
  intro n
  induction n with
  | zero =>
    intro a s acc u ha1 ha2 ha3 ha4 hu hs hS hlen h30 hacc0 hacc1 h
    refine hend a s acc u 0 (by omega) ha2 hu hs hS (by omega) h30 (fun v v1 v2 v3 v4 v5 => ?_)
    refine h v v1 v2 (fun j x hx => by cases hx) v3 ?_ ?_
    · unfold zhl zixs
      rw [Int.add_zero]
      exact v4
    · exact v5
  | succ n ih =>
    intro a s acc u ha1 ha2 ha3 ha4 hu hs hS hlen h30 hacc0 hacc1 h
    by_cases c : a < zlow pts z m
    · have hlt : pts (zlow pts z m) < pts a := (hl.2.2.2 a ha1 (by have := hl.2.1; unfold zlow at c; omega) ha3).2 c
      obtain ⟨b, e, b1, b2, b3, b4⟩ := znc_fall c hl.2.2.1 hlt
      unfold zhl at h hlen
      rw [if_pos c, e, Int.toNat_natCast] at h hlen
      rw [List.length_cons] at hlen
      have hptu : zPt u (zpA pa (zpL pa)) pts := ⟨hpt.1, fun i hi => by rw [hu.a 31 (by decide)]; exact hpt.2 i hi⟩
      have ew : tgw u = tgw t := hu.1.symm
      have e0 := hu.i 0 (by decide)
      have e19 : tgl u 19 = tgl t 19 := hu.l 19 (by decide)
      rw [wM_laysSides_l99]
      try simp only [zl32, zl64, i32_add, i32_sub, i32_mul, i32_neg, i64_add, i64_sub, i64_mul, i64_neg, cv_gi, cv_gw, cv_ga, cv_gl, cv_pi, cv_pw, cv_pa, cv_pl, zf_S, zf_i, zf_l, mz1, mz2, mz3, mz4]
      repeat' (first | (exfalso; omega) | (with_reducible refine zb_in ?_ ?_ ?_ ?_; omega; omega; omega) | (with_reducible refine zb_le ?_ ?_ ?_ ?_ (fun _ => ?_) (fun _ => ?_); omega; omega; omega; omega) | (with_reducible refine zb_lt ?_ ?_ ?_ ?_ (fun _ => ?_) (fun _ => ?_); omega; omega; omega; omega) | (with_reducible refine zb_eq ?_ ?_ ?_ ?_ (fun _ => ?_) (fun _ => ?_); omega; omega; omega; omega) | (with_reducible refine zb_leL ?_ ?_ ?_ ?_ (fun _ => ?_) (fun _ => ?_); omega; omega; omega; omega) | (with_reducible refine zb_ltL ?_ ?_ ?_ ?_ (fun _ => ?_) (fun _ => ?_); omega; omega; omega; omega) | (with_reducible refine zb_eqL ?_ ?_ ?_ ?_ (fun _ => ?_) (fun _ => ?_); omega; omega; omega; omega) | (with_reducible refine zb_nz ?_ ?_ ?_ ?_; omega; omega; omega) | (with_reducible refine zb_nzL ?_ ?_ ?_ ?_; omega; omega; omega) | with_reducible refine zb_ite ?_ | with_reducible refine zb_iteL ?_ | ((with_reducible intro y hy); subst hy; try simp only [zl32, zl64, i32_add, i32_sub, i32_mul, i32_neg, i64_add, i64_sub, i64_mul, i64_neg, cv_gi, cv_gw, cv_ga, cv_gl, cv_pi, cv_pw, cv_pa, cv_pl, zf_S, zf_i, zf_l, mz1, mz2, mz3, mz4, zr_ii, zr_iw, zr_ia, zr_il, zr_wi, zr_ww, zr_wa, zr_wl, zr_ai, zr_aw, zr_aa, zr_al, zr_li, zr_lw, zr_la, zr_ll, zw_ii, zw_ww, zw_aa, zw_ll, reduceIte, Nat.reduceEqDiff, if_true, if_false]) | with_reducible refine zb_o1 ?_ | with_reducible refine zb_o2 ?_ | with_reducible refine zb_o3 ?_ | with_reducible refine zb_o4 ?_ | with_reducible refine zb_tr ?_ | exact trivial | with_reducible refine zb_T ?_ | with_reducible refine zb_sp ?_ ?_)
      refine sM_nextCorner u _ a (zlow pts z m) pts hptu hbb (by omega) (by omega) _ ?_
      rw [e]
      refine sM_laysSide u pa m s a b pts (by rw [ew, e0, e19]; exact hpts) hm8 (hu.PR (by decide) (by decide) hP) (hH.moved hu (by decide) (by decide) (by decide) (by decide) (by decide) (by decide)) (hK.moved hu (by decide)) (hM.moved hu (by decide) (by decide)) (by rw [ew]; exact hv) (by rw [e0]; exact hw) (by rw [ew, e19]; exact hits) hptu hs (by omega) b1 (by omega) b3 b4 _ (fun v v1 v2 v3 v4 => ?_)
      rw [ew, e0, e19] at v3
      have htv : zfr [22, 56] [30, 36, 37, 38, 39, 40, 41, 42, 43, 55] [8] t v := hu.trans (v1.mono (by decide) (by decide) (by decide))
      have hptv : zPt v (zpA pa (zpL pa)) pts := ⟨hpt.1, fun i hi => by rw [htv.a 31 (by decide)]; exact hpt.2 i hi⟩
      refine sM_point0 v _ a pts hptv (by omega) _ ?_
      refine sM_point0 v _ b pts hptv (by omega) _ ?_
      have hv30 : tga v 30 = zup (tga t 30) (zpA pa (zpL pa)) acc := by rw [v1.a 30 (by decide)]; exact h30
      have bl := hbb (zlow pts z m)
      have x0 := zixa_bd hbb (low := pts (zlow pts z m)) b1 b4 hl.2.2.1 (by omega) (b - max a 1) (by omega)
      have hgo : wM_laysSides_l155 (fun z_ z5 => wM_laysSides_l99 Q (i32 (zpA pa (zpL pa))) (i32 (zlow pts z m)) (i32 (pts (zlow pts z m))) (n + 1) z_ z5) Q (i32 (zpA pa (zpL pa))) (i32 (zlow pts z m)) (i32 (pts (zlow pts z m))) (i32 a) (i32 b) (i32 (pts a - pts b)) (max b 1 - max a 1 + 1) (cv v) (i32 (max a 1 + 0 : Nat)) := by
        refine sM_sides_l155 (zpA pa (zpL pa)) a b pts (pts (zlow pts z m)) hbb b1 b4 hl.2.2.1 bl.2 (by omega) _ Q _ hkn (max b 1 - max a 1) 0 v acc hptv (by omega) ?_ hacc0 (by omega) ?_
        · rw [hv30, zup_at]
          unfold zixa
          omega
        · rw [show max b 1 - max a 1 = b - max a 1 by omega]
          refine ih b (s + 1) (acc + zixa pts a b (pts (zlow pts z m)) (b - max a 1)) _ (by omega) b2 b3 (by omega) (zfr_sa htv (by decide)) (by rw [zr_ia]; exact v2) (by omega) (by omega) (by rw [zr_aa, if_pos rfl, hv30, zup_zup]) (by omega) (by omega) (fun w w1 w2 w3 w4 w5 w6 => ?_)
          have hlen2 : s + 1 + (zhl pts (zlow pts z m) n b).length = s + ((a, b) :: zhl pts (zlow pts z m) n b).length := by
            rw [List.length_cons]
            omega
          have hvw : zfr [22, 56] [28, 30, 36, 37, 38, 39, 40, 41, 42, 43, 55] [8] v w := (zfr_sa (zfr.refl v) (by decide)).trans w1
          have w4' : zSk v w (s + 1) := ⟨fun k k1 k2 q hq => (w4.1 k k1 k2 q hq).trans (by rw [zr_aa, if_neg (by omega)]), fun q hq => (w4.2.1 q hq).trans (by rw [zr_aa, if_neg (by decide)]), fun q hq => (w4.2.2 q hq).trans (by rw [zr_aa, if_neg (by decide)])⟩
          refine h w ((v1.mono (by decide) (by decide) (by decide)).trans hvw) (by rw [w2, hlen2]) (fun j x hx => ?_) (v4.trans w4' (by omega)) ?_ ?_
          · cases j with
            | zero =>
              cases hx
              exact w4'.SA (by omega) v3
            | succ j =>
              have := w3 j x hx
              rw [show s + 1 + j = s + (j + 1) by omega] at this
              exact this
          · rw [w5]
            rw [Int.add_assoc]
            rfl
          · rw [w6, zr_aa, if_neg (by decide), v1.a 28 (by decide), hlen2]
      try simp only [zl32, zl64, i32_add, i32_sub, i32_mul, i32_neg, i64_add, i64_sub, i64_mul, i64_neg, cv_gi, cv_gw, cv_ga, cv_gl, cv_pi, cv_pw, cv_pa, cv_pl, zf_S, zf_i, zf_l, mz1, mz2, mz3, mz4]
      repeat' (first | (exfalso; omega) | (with_reducible refine zb_in ?_ ?_ ?_ ?_; omega; omega; omega) | (with_reducible refine zb_le ?_ ?_ ?_ ?_ (fun _ => ?_) (fun _ => ?_); omega; omega; omega; omega) | (with_reducible refine zb_lt ?_ ?_ ?_ ?_ (fun _ => ?_) (fun _ => ?_); omega; omega; omega; omega) | (with_reducible refine zb_eq ?_ ?_ ?_ ?_ (fun _ => ?_) (fun _ => ?_); omega; omega; omega; omega) | (with_reducible refine zb_leL ?_ ?_ ?_ ?_ (fun _ => ?_) (fun _ => ?_); omega; omega; omega; omega) | (with_reducible refine zb_ltL ?_ ?_ ?_ ?_ (fun _ => ?_) (fun _ => ?_); omega; omega; omega; omega) | (with_reducible refine zb_eqL ?_ ?_ ?_ ?_ (fun _ => ?_) (fun _ => ?_); omega; omega; omega; omega) | (with_reducible refine zb_nz ?_ ?_ ?_ ?_; omega; omega; omega) | (with_reducible refine zb_nzL ?_ ?_ ?_ ?_; omega; omega; omega) | with_reducible refine zb_ite ?_ | with_reducible refine zb_iteL ?_ | ((with_reducible intro y hy); subst hy; try simp only [zl32, zl64, i32_add, i32_sub, i32_mul, i32_neg, i64_add, i64_sub, i64_mul, i64_neg, cv_gi, cv_gw, cv_ga, cv_gl, cv_pi, cv_pw, cv_pa, cv_pl, zf_S, zf_i, zf_l, mz1, mz2, mz3, mz4, zr_ii, zr_iw, zr_ia, zr_il, zr_wi, zr_ww, zr_wa, zr_wl, zr_ai, zr_aw, zr_aa, zr_al, zr_li, zr_lw, zr_la, zr_ll, zw_ii, zw_ww, zw_aa, zw_ll, reduceIte, Nat.reduceEqDiff, if_true, if_false]) | with_reducible refine zb_o1 ?_ | with_reducible refine zb_o2 ?_ | with_reducible refine zb_o3 ?_ | with_reducible refine zb_o4 ?_ | with_reducible refine zb_tr ?_ | exact trivial | with_reducible refine zb_T ?_ | with_reducible refine zb_sp ?_ ?_)
      · rw [show max a 1 + 0 = a by omega] at hgo
        exact ⟨_, hgo⟩
      · rw [show max a 1 + 0 = 1 by omega] at hgo
        exact ⟨_, hgo⟩
    · unfold zhl at h hlen
      rw [if_neg c] at h hlen
      refine hend a s acc u (n + 1) (by omega) ha2 hu hs hS (by omega) h30 (fun v v1 v2 v3 v4 v5 => ?_)
      refine h v v1 v2 (fun j x hx => by cases hx) v3 ?_ ?_
      · unfold zixs
        rw [Int.add_zero]
        exact v4
      · exact v5
