/-! CLASS 14: gets (a slot takes a row) -/
set_option maxRecDepth 100000
theorem kC_tie {mc ms : Nat} {S : hH} {v : Int} (hv1 : -9223372036854775808 ≤ v) (hv2 : v < 9223372036854775808) (Q : (Int32 ⊕ String × Nat) → hH → Prop) (h1 : -2147483648 ≤ v → v < 2147483648 → Q (.inl (i32 v)) S) (h0 : ¬ (-2147483648 ≤ v ∧ v < 2147483648) → 1 ≤ mc ∧ 6 ≤ ms ∧ ∀ a, S a = none → Q (.inr ("java/lang/ArithmeticException", a)) (hup S a (kO 20 []))) : zJ9_toIntExact mc ms S (i64 v) Q := by
  unfold zJ9_toIntExact
  rw [i64_32]
  have r := i32_rng (i32 v)
  have e0 : (i32 v).toInt64 = i64 (i32 v).toInt := by
    conv => lhs; rw [← i32_of (i32 v)]
    exact i32_64 r.1 r.2
  have key : (i32 v).toInt64 = i64 v ↔ (-2147483648 ≤ v ∧ v < 2147483648) := by
    rw [e0, i64_eq (by omega) (by omega) hv1 hv2]
    refine ⟨fun e => by omega, fun h => i32_toInt h.1 h.2⟩
  rw [key]
  refine ⟨fun h => h1 h.1 h.2, fun h => ?_⟩
  obtain ⟨a, b, c⟩ := h0 h
  refine ⟨by omega, by omega, fun q hq S8 h8 => ?_⟩
  subst h8
  exact c q hq
/-- a role's address is another -/
def kA' (A : Nat → Nat) (k q : Nat) : Nat → Nat := fun j => if j = k then q else A j
theorem kA'_at (A : Nat → Nat) (k q : Nat) : kA' A k q k = q := if_pos rfl
theorem kA'_ne (A : Nat → Nat) {k q j : Nat} (h : j ≠ k) : kA' A k q j = A j := if_neg h
theorem kC_gets {S : hH} {A : Nat → Nat} {p M : Int} {tr : Option Nat} {g : Nat → Nat → Int} (o0 : S (A 0) = some (kOb A p M tr)) (hS : kSlo A S g) (s : Nat) (hs : s < 5) {fa : Nat} {f : Nat → Int} (jf : S fa = some (kJ 9 f)) (hf : ∀ k, k < 9 → -9223372036854775808 ≤ f k ∧ f k < 9223372036854775808) (mc ms : Nat) (hmc : 10 ≤ mc) (hms : 63 ≤ ms) (Q : Int32 → hH → Prop)
    (h0 : ¬ zfit f → ∀ S1, kF (fun _ => False) S S1 → Q (i32 (-3)) S1) (h1 : zfit f → ∀ S1 q fq, S q = none → kF (fun x => x = A 77) S S1 → S1 q = some (kI 9 f) → S1 (A 77) = some (kQ 8 5 fq) → (∀ i, i < 5 → fq i = some (if i = s then q else A (85 + i))) → Q (i32 1) S1) : zX0_gets mc ms S (A 0) (i32 s) fa Q := by
  obtain ⟨⟨fq, q77, hfq⟩, hrow, hrg⟩ := hS
  have h07 : A 0 ≠ A 77 := kne2 o0 q77 (by intro e; cases e)
  unfold zX0_gets
  refine ⟨by omega, by omega, ?_⟩
  intro q hq
  rw [kI_new]
  try simp (disch := first | assumption | omega) only [zl32, zl64, i32_add, i32_sub, i32_mul, i32_neg, i64_add, i64_sub, i64_mul, i64_neg, cv_gi, cv_gw, cv_ga, cv_gl, cv_pi, cv_pw, cv_pa, cv_pl, zf_S, zf_i, zf_l, mz1, mz2, mz3, mz4, kn_haI, kn_haJ, kn_haQ, kn_gaI, kn_gaJ, kn_gaQ, kn_hoA, kn_hlen, kn_hfI, kn_hfJ, kn_hfR, kn_hfN, kn_hoI, kn_hoJ, kn_hoR, kn_hoN, kn_hoC, kn_hoP, kn_paI, kn_paJ, kn_paQ, kn_hpF, kuI_ha, kuI_ga, kuI_pa, kuI_hA, kuI_ln, kuB_ha, kuB_ga, kuB_pa, kuB_hA, kuB_ln, kuJ_ha, kuJ_ga, kuJ_pa, kuJ_hA, kuJ_ln, kuQ_ha, kuQ_ga, kuQ_pa, kuQ_hA, kuQ_ln, kuO_fI, kuO_fJ, kuO_fR, kuO_fN, kuO_oI, kuO_oJ, kuO_oR, kuO_oN, kuO_oC, kuO_oP, kuO_pF, kvI_s, kvJ_s, kvR_s, kvN_s, kvN_0, kvN_v, kpI_s, kpJ_s, kpR_s, kpN_s, kpN_0, kpN_v, List.getElem?_cons_zero, List.getElem?_cons_succ, List.set_cons_zero, List.set_cons_succ, List.length_cons, List.length_nil, forall_eq, exists_eq_left', Option.some.injEq, true_and, and_true, reduceIte, Nat.reduceEqDiff, Nat.reduceAdd, Nat.reduceLT, hup_hup, hup_at, eq_self, if_true, if_false, implies_true, true_implies, false_implies, not_true_eq_false, not_false_eq_true, or_true, true_or, i32_10, i32_01, kI_new, kB_new, kJ_new, kI_new2, kB_new2, kJ_new2, kQ_new, kO_new, zkd, zijd, zip1, zip, zim1, i32_natN, ziL, zi_0, zi_1]
  have n0 : A 0 ≠ q := kne o0 hq
  have n7 : A 77 ≠ q := kne q77 hq
  have nf : fa ≠ q := kne jf hq
  have L : ∀ n k kc nc : Nat, k + n = 9 → ∀ g : Nat → Int, (∀ x, x < k → g x = f x ∧ -9999 ≤ f x ∧ f x ≤ 9999) → kc + n ≤ mc → nc + 6 * n ≤ ms → zX0_gets_l8 mc ms Q (A 0) (i32 s) fa q (n + 1) kc nc (hup S q (kI 9 g)) (i32 k) := by
    intro n
    induction n with
    | zero =>
      intro k kc nc hk g hg hb1 hb2
      have : k = 9 := by omega
      subst this
      rw [zX0_gets_l8]
      try simp (disch := first | assumption | omega) only [zl32, zl64, i32_add, i32_sub, i32_mul, i32_neg, i64_add, i64_sub, i64_mul, i64_neg, cv_gi, cv_gw, cv_ga, cv_gl, cv_pi, cv_pw, cv_pa, cv_pl, zf_S, zf_i, zf_l, mz1, mz2, mz3, mz4, kn_haI, kn_haJ, kn_haQ, kn_gaI, kn_gaJ, kn_gaQ, kn_hoA, kn_hlen, kn_hfI, kn_hfJ, kn_hfR, kn_hfN, kn_hoI, kn_hoJ, kn_hoR, kn_hoN, kn_hoC, kn_hoP, kn_paI, kn_paJ, kn_paQ, kn_hpF, kuI_ha, kuI_ga, kuI_pa, kuI_hA, kuI_ln, kuB_ha, kuB_ga, kuB_pa, kuB_hA, kuB_ln, kuJ_ha, kuJ_ga, kuJ_pa, kuJ_hA, kuJ_ln, kuQ_ha, kuQ_ga, kuQ_pa, kuQ_hA, kuQ_ln, kuO_fI, kuO_fJ, kuO_fR, kuO_fN, kuO_oI, kuO_oJ, kuO_oR, kuO_oN, kuO_oC, kuO_oP, kuO_pF, kvI_s, kvJ_s, kvR_s, kvN_s, kvN_0, kvN_v, kpI_s, kpJ_s, kpR_s, kpN_s, kpN_0, kpN_v, List.getElem?_cons_zero, List.getElem?_cons_succ, List.set_cons_zero, List.set_cons_succ, List.length_cons, List.length_nil, forall_eq, exists_eq_left', Option.some.injEq, true_and, and_true, reduceIte, Nat.reduceEqDiff, Nat.reduceAdd, Nat.reduceLT, hup_hup, hup_at, eq_self, if_true, if_false, implies_true, true_implies, false_implies, not_true_eq_false, not_false_eq_true, or_true, true_or, i32_10, i32_01, kI_new, kB_new, kJ_new, kI_new2, kB_new2, kJ_new2, kQ_new, kO_new, zkd, zijd, zip1, zip, zim1, i32_natN, ziL, zi_0, zi_1, kO_fI o0, kO_fJ o0, kO_fR o0, kO_fN o0, kO_oI o0, kO_oJ o0, kO_oR o0, kO_oN o0, kO_oC o0, kO_oP o0, kO_pF o0, kQ_ha q77, kQ_ga q77, kQ_pa q77, kQ_hA q77, kQ_ln q77]
      repeat' (first | (exfalso; omega) | (with_reducible refine zb_in ?_ ?_ ?_ ?_; omega; omega; omega) | (with_reducible refine zb_le ?_ ?_ ?_ ?_ (fun _ => ?_) (fun _ => ?_); omega; omega; omega; omega) | (with_reducible refine zb_lt ?_ ?_ ?_ ?_ (fun _ => ?_) (fun _ => ?_); omega; omega; omega; omega) | (with_reducible refine zb_eq ?_ ?_ ?_ ?_ (fun _ => ?_) (fun _ => ?_); omega; omega; omega; omega) | (with_reducible refine zb_leL ?_ ?_ ?_ ?_ (fun _ => ?_) (fun _ => ?_); omega; omega; omega; omega) | (with_reducible refine zb_ltL ?_ ?_ ?_ ?_ (fun _ => ?_) (fun _ => ?_); omega; omega; omega; omega) | (with_reducible refine zb_eqL ?_ ?_ ?_ ?_ (fun _ => ?_) (fun _ => ?_); omega; omega; omega; omega) | (with_reducible refine zb_nz ?_ ?_ ?_ ?_; omega; omega; omega) | (with_reducible refine zb_nzL ?_ ?_ ?_ ?_; omega; omega; omega) | with_reducible refine zb_ite ?_ | with_reducible refine zb_iteL ?_ | ((with_reducible intro y hy); subst hy; try simp only [zl32, zl64, i32_add, i32_sub, i32_mul, i32_neg, i64_add, i64_sub, i64_mul, i64_neg, cv_gi, cv_gw, cv_ga, cv_gl, cv_pi, cv_pw, cv_pa, cv_pl, zf_S, zf_i, zf_l, mz1, mz2, mz3, mz4, zr_ii, zr_iw, zr_ia, zr_il, zr_wi, zr_ww, zr_wa, zr_wl, zr_ai, zr_aw, zr_aa, zr_al, zr_li, zr_lw, zr_la, zr_ll, zw_ii, zw_ww, zw_aa, zw_ll, reduceIte, Nat.reduceEqDiff, if_true, if_false]) | with_reducible refine zb_o1 ?_ | with_reducible refine zb_o2 ?_ | with_reducible refine zb_o3 ?_ | with_reducible refine zb_o4 ?_ | with_reducible refine zb_tr ?_ | exact trivial | with_reducible refine zb_T ?_ | with_reducible refine zb_sp ?_ ?_)
      refine h1 (fun x hx => (hg x hx).2) _ q (va_up fq s (some q)) hq ?_ ?_ (by rw [hup_ne n7, hup_at]) (fun i hi => ?_)
      · exact kF.trans' (kF.up _ rfl) (fun x y hx hm => by rw [hup_ne (by rintro rfl; by_cases e : x = A 77; exact hm e; rw [hup_ne e, hq] at hx; cases hx)]; exact hx)
      · rw [hup_at, kI_ext (fun x hx => (hg x hx).1)]
      · unfold va_up
        by_cases c : i = s
        · rw [if_pos c, if_pos c]
        · rw [if_neg c, if_neg c]
          exact hfq i hi
    | succ n ih =>
      intro k kc nc hk g hg hb1 hb2
      have r := hf k (by omega)
      rw [zX0_gets_l8]
      try simp (disch := first | assumption | omega) only [zl32, zl64, i32_add, i32_sub, i32_mul, i32_neg, i64_add, i64_sub, i64_mul, i64_neg, cv_gi, cv_gw, cv_ga, cv_gl, cv_pi, cv_pw, cv_pa, cv_pl, zf_S, zf_i, zf_l, mz1, mz2, mz3, mz4, kn_haI, kn_haJ, kn_haQ, kn_gaI, kn_gaJ, kn_gaQ, kn_hoA, kn_hlen, kn_hfI, kn_hfJ, kn_hfR, kn_hfN, kn_hoI, kn_hoJ, kn_hoR, kn_hoN, kn_hoC, kn_hoP, kn_paI, kn_paJ, kn_paQ, kn_hpF, kuI_ha, kuI_ga, kuI_pa, kuI_hA, kuI_ln, kuB_ha, kuB_ga, kuB_pa, kuB_hA, kuB_ln, kuJ_ha, kuJ_ga, kuJ_pa, kuJ_hA, kuJ_ln, kuQ_ha, kuQ_ga, kuQ_pa, kuQ_hA, kuQ_ln, kuO_fI, kuO_fJ, kuO_fR, kuO_fN, kuO_oI, kuO_oJ, kuO_oR, kuO_oN, kuO_oC, kuO_oP, kuO_pF, kvI_s, kvJ_s, kvR_s, kvN_s, kvN_0, kvN_v, kpI_s, kpJ_s, kpR_s, kpN_s, kpN_0, kpN_v, List.getElem?_cons_zero, List.getElem?_cons_succ, List.set_cons_zero, List.set_cons_succ, List.length_cons, List.length_nil, forall_eq, exists_eq_left', Option.some.injEq, true_and, and_true, reduceIte, Nat.reduceEqDiff, Nat.reduceAdd, Nat.reduceLT, hup_hup, hup_at, eq_self, if_true, if_false, implies_true, true_implies, false_implies, not_true_eq_false, not_false_eq_true, or_true, true_or, i32_10, i32_01, kI_new, kB_new, kJ_new, kI_new2, kB_new2, kJ_new2, kQ_new, kO_new, zkd, zijd, zip1, zip, zim1, i32_natN, ziL, zi_0, zi_1, kO_fI o0, kO_fJ o0, kO_fR o0, kO_fN o0, kO_oI o0, kO_oJ o0, kO_oR o0, kO_oN o0, kO_oC o0, kO_oP o0, kO_pF o0, kJ_ha jf, kJ_ga jf, kJ_pa jf, kJ_hA jf, kJ_ln jf]
      repeat' (first | (exfalso; omega) | (with_reducible refine zb_in ?_ ?_ ?_ ?_; omega; omega; omega) | (with_reducible refine zb_le ?_ ?_ ?_ ?_ (fun _ => ?_) (fun _ => ?_); omega; omega; omega; omega) | (with_reducible refine zb_lt ?_ ?_ ?_ ?_ (fun _ => ?_) (fun _ => ?_); omega; omega; omega; omega) | (with_reducible refine zb_eq ?_ ?_ ?_ ?_ (fun _ => ?_) (fun _ => ?_); omega; omega; omega; omega) | (with_reducible refine zb_leL ?_ ?_ ?_ ?_ (fun _ => ?_) (fun _ => ?_); omega; omega; omega; omega) | (with_reducible refine zb_ltL ?_ ?_ ?_ ?_ (fun _ => ?_) (fun _ => ?_); omega; omega; omega; omega) | (with_reducible refine zb_eqL ?_ ?_ ?_ ?_ (fun _ => ?_) (fun _ => ?_); omega; omega; omega; omega) | (with_reducible refine zb_nz ?_ ?_ ?_ ?_; omega; omega; omega) | (with_reducible refine zb_nzL ?_ ?_ ?_ ?_; omega; omega; omega) | with_reducible refine zb_ite ?_ | with_reducible refine zb_iteL ?_ | ((with_reducible intro y hy); subst hy; try simp only [zl32, zl64, i32_add, i32_sub, i32_mul, i32_neg, i64_add, i64_sub, i64_mul, i64_neg, cv_gi, cv_gw, cv_ga, cv_gl, cv_pi, cv_pw, cv_pa, cv_pl, zf_S, zf_i, zf_l, mz1, mz2, mz3, mz4, zr_ii, zr_iw, zr_ia, zr_il, zr_wi, zr_ww, zr_wa, zr_wl, zr_ai, zr_aw, zr_aa, zr_al, zr_li, zr_lw, zr_la, zr_ll, zw_ii, zw_ww, zw_aa, zw_ll, reduceIte, Nat.reduceEqDiff, if_true, if_false]) | with_reducible refine zb_o1 ?_ | with_reducible refine zb_o2 ?_ | with_reducible refine zb_o3 ?_ | with_reducible refine zb_o4 ?_ | with_reducible refine zb_tr ?_ | exact trivial | with_reducible refine zb_T ?_ | with_reducible refine zb_sp ?_ ?_)
      refine ⟨1, 6, by omega, by omega, ?_⟩
      refine kC_tie r.1 r.2 _ (fun a1 a2 => ?_) (fun a => ⟨by omega, by omega, fun a ha => ?_⟩)
      · refine ⟨fun E x e => (by cases e), fun r e => ?_⟩
        cases e
        refine ⟨9, _, hup_at _ _ _, fun e => absurd (i32_in (by omega) (by omega) (by omega)) e, fun _ => ?_⟩
        try simp (disch := first | assumption | omega) only [zl32, zl64, i32_add, i32_sub, i32_mul, i32_neg, i64_add, i64_sub, i64_mul, i64_neg, cv_gi, cv_gw, cv_ga, cv_gl, cv_pi, cv_pw, cv_pa, cv_pl, zf_S, zf_i, zf_l, mz1, mz2, mz3, mz4, kn_haI, kn_haJ, kn_haQ, kn_gaI, kn_gaJ, kn_gaQ, kn_hoA, kn_hlen, kn_hfI, kn_hfJ, kn_hfR, kn_hfN, kn_hoI, kn_hoJ, kn_hoR, kn_hoN, kn_hoC, kn_hoP, kn_paI, kn_paJ, kn_paQ, kn_hpF, kuI_ha, kuI_ga, kuI_pa, kuI_hA, kuI_ln, kuB_ha, kuB_ga, kuB_pa, kuB_hA, kuB_ln, kuJ_ha, kuJ_ga, kuJ_pa, kuJ_hA, kuJ_ln, kuQ_ha, kuQ_ga, kuQ_pa, kuQ_hA, kuQ_ln, kuO_fI, kuO_fJ, kuO_fR, kuO_fN, kuO_oI, kuO_oJ, kuO_oR, kuO_oN, kuO_oC, kuO_oP, kuO_pF, kvI_s, kvJ_s, kvR_s, kvN_s, kvN_0, kvN_v, kpI_s, kpJ_s, kpR_s, kpN_s, kpN_0, kpN_v, List.getElem?_cons_zero, List.getElem?_cons_succ, List.set_cons_zero, List.set_cons_succ, List.length_cons, List.length_nil, forall_eq, exists_eq_left', Option.some.injEq, true_and, and_true, reduceIte, Nat.reduceEqDiff, Nat.reduceAdd, Nat.reduceLT, hup_hup, hup_at, eq_self, if_true, if_false, implies_true, true_implies, false_implies, not_true_eq_false, not_false_eq_true, or_true, true_or, i32_10, i32_01, kI_new, kB_new, kJ_new, kI_new2, kB_new2, kJ_new2, kQ_new, kO_new, zkd, zijd, zip1, zip, zim1, i32_natN, ziL, zi_0, zi_1]
        refine ⟨9, _, rfl, fun e => absurd (i32_in (by omega) (by omega) (by omega)) e, fun _ => ?_⟩
        try simp (disch := first | assumption | omega) only [zl32, zl64, i32_add, i32_sub, i32_mul, i32_neg, i64_add, i64_sub, i64_mul, i64_neg, cv_gi, cv_gw, cv_ga, cv_gl, cv_pi, cv_pw, cv_pa, cv_pl, zf_S, zf_i, zf_l, mz1, mz2, mz3, mz4, kn_haI, kn_haJ, kn_haQ, kn_gaI, kn_gaJ, kn_gaQ, kn_hoA, kn_hlen, kn_hfI, kn_hfJ, kn_hfR, kn_hfN, kn_hoI, kn_hoJ, kn_hoR, kn_hoN, kn_hoC, kn_hoP, kn_paI, kn_paJ, kn_paQ, kn_hpF, kuI_ha, kuI_ga, kuI_pa, kuI_hA, kuI_ln, kuB_ha, kuB_ga, kuB_pa, kuB_hA, kuB_ln, kuJ_ha, kuJ_ga, kuJ_pa, kuJ_hA, kuJ_ln, kuQ_ha, kuQ_ga, kuQ_pa, kuQ_hA, kuQ_ln, kuO_fI, kuO_fJ, kuO_fR, kuO_fN, kuO_oI, kuO_oJ, kuO_oR, kuO_oN, kuO_oC, kuO_oP, kuO_pF, kvI_s, kvJ_s, kvR_s, kvN_s, kvN_0, kvN_v, kpI_s, kpJ_s, kpR_s, kpN_s, kpN_0, kpN_v, List.getElem?_cons_zero, List.getElem?_cons_succ, List.set_cons_zero, List.set_cons_succ, List.length_cons, List.length_nil, forall_eq, exists_eq_left', Option.some.injEq, true_and, and_true, reduceIte, Nat.reduceEqDiff, Nat.reduceAdd, Nat.reduceLT, hup_hup, hup_at, eq_self, if_true, if_false, implies_true, true_implies, false_implies, not_true_eq_false, not_false_eq_true, or_true, true_or, i32_10, i32_01, kI_new, kB_new, kJ_new, kI_new2, kB_new2, kJ_new2, kQ_new, kO_new, zkd, zijd, zip1, zip, zim1, i32_natN, ziL, zi_0, zi_1]
        rw [zup_at, i32_64 (by omega) (by omega)]
        refine kC_in _ _ _ _ (by omega) (by omega) (by omega) (by omega) (by omega) (by omega) (fun b1 b2 => ?_) (fun b => ?_)
        · try simp only [zl32, zl64, i32_add, i32_sub, i32_mul, i32_neg, i64_add, i64_sub, i64_mul, i64_neg, cv_gi, cv_gw, cv_ga, cv_gl, cv_pi, cv_pw, cv_pa, cv_pl, zf_S, zf_i, zf_l, mz1, mz2, mz3, mz4]
          repeat' (first | (exfalso; omega) | (with_reducible refine zb_in ?_ ?_ ?_ ?_; omega; omega; omega) | (with_reducible refine zb_le ?_ ?_ ?_ ?_ (fun _ => ?_) (fun _ => ?_); omega; omega; omega; omega) | (with_reducible refine zb_lt ?_ ?_ ?_ ?_ (fun _ => ?_) (fun _ => ?_); omega; omega; omega; omega) | (with_reducible refine zb_eq ?_ ?_ ?_ ?_ (fun _ => ?_) (fun _ => ?_); omega; omega; omega; omega) | (with_reducible refine zb_leL ?_ ?_ ?_ ?_ (fun _ => ?_) (fun _ => ?_); omega; omega; omega; omega) | (with_reducible refine zb_ltL ?_ ?_ ?_ ?_ (fun _ => ?_) (fun _ => ?_); omega; omega; omega; omega) | (with_reducible refine zb_eqL ?_ ?_ ?_ ?_ (fun _ => ?_) (fun _ => ?_); omega; omega; omega; omega) | (with_reducible refine zb_nz ?_ ?_ ?_ ?_; omega; omega; omega) | (with_reducible refine zb_nzL ?_ ?_ ?_ ?_; omega; omega; omega) | with_reducible refine zb_ite ?_ | with_reducible refine zb_iteL ?_ | ((with_reducible intro y hy); subst hy; try simp only [zl32, zl64, i32_add, i32_sub, i32_mul, i32_neg, i64_add, i64_sub, i64_mul, i64_neg, cv_gi, cv_gw, cv_ga, cv_gl, cv_pi, cv_pw, cv_pa, cv_pl, zf_S, zf_i, zf_l, mz1, mz2, mz3, mz4, zr_ii, zr_iw, zr_ia, zr_il, zr_wi, zr_ww, zr_wa, zr_wl, zr_ai, zr_aw, zr_aa, zr_al, zr_li, zr_lw, zr_la, zr_ll, zw_ii, zw_ww, zw_aa, zw_ll, reduceIte, Nat.reduceEqDiff, if_true, if_false]) | with_reducible refine zb_o1 ?_ | with_reducible refine zb_o2 ?_ | with_reducible refine zb_o3 ?_ | with_reducible refine zb_o4 ?_ | with_reducible refine zb_tr ?_ | exact trivial | with_reducible refine zb_T ?_ | with_reducible refine zb_sp ?_ ?_)
          refine ih (k + 1) _ _ (by omega) _ (fun x hx => ?_) (by omega) (by omega)
          by_cases c : x = k
          · subst c
            rw [zup_at]
            exact ⟨rfl, by omega, by omega⟩
          · rw [zup_ne _ _ c]
            exact hg x (by omega)
        · try simp only [zl32, zl64, i32_add, i32_sub, i32_mul, i32_neg, i64_add, i64_sub, i64_mul, i64_neg, cv_gi, cv_gw, cv_ga, cv_gl, cv_pi, cv_pw, cv_pa, cv_pl, zf_S, zf_i, zf_l, mz1, mz2, mz3, mz4]
          repeat' (first | (exfalso; omega) | (with_reducible refine zb_in ?_ ?_ ?_ ?_; omega; omega; omega) | (with_reducible refine zb_le ?_ ?_ ?_ ?_ (fun _ => ?_) (fun _ => ?_); omega; omega; omega; omega) | (with_reducible refine zb_lt ?_ ?_ ?_ ?_ (fun _ => ?_) (fun _ => ?_); omega; omega; omega; omega) | (with_reducible refine zb_eq ?_ ?_ ?_ ?_ (fun _ => ?_) (fun _ => ?_); omega; omega; omega; omega) | (with_reducible refine zb_leL ?_ ?_ ?_ ?_ (fun _ => ?_) (fun _ => ?_); omega; omega; omega; omega) | (with_reducible refine zb_ltL ?_ ?_ ?_ ?_ (fun _ => ?_) (fun _ => ?_); omega; omega; omega; omega) | (with_reducible refine zb_eqL ?_ ?_ ?_ ?_ (fun _ => ?_) (fun _ => ?_); omega; omega; omega; omega) | (with_reducible refine zb_nz ?_ ?_ ?_ ?_; omega; omega; omega) | (with_reducible refine zb_nzL ?_ ?_ ?_ ?_; omega; omega; omega) | with_reducible refine zb_ite ?_ | with_reducible refine zb_iteL ?_ | ((with_reducible intro y hy); subst hy; try simp only [zl32, zl64, i32_add, i32_sub, i32_mul, i32_neg, i64_add, i64_sub, i64_mul, i64_neg, cv_gi, cv_gw, cv_ga, cv_gl, cv_pi, cv_pw, cv_pa, cv_pl, zf_S, zf_i, zf_l, mz1, mz2, mz3, mz4, zr_ii, zr_iw, zr_ia, zr_il, zr_wi, zr_ww, zr_wa, zr_wl, zr_ai, zr_aw, zr_aa, zr_al, zr_li, zr_lw, zr_la, zr_ll, zw_ii, zw_ww, zw_aa, zw_ll, reduceIte, Nat.reduceEqDiff, if_true, if_false]) | with_reducible refine zb_o1 ?_ | with_reducible refine zb_o2 ?_ | with_reducible refine zb_o3 ?_ | with_reducible refine zb_o4 ?_ | with_reducible refine zb_tr ?_ | exact trivial | with_reducible refine zb_T ?_ | with_reducible refine zb_sp ?_ ?_)
          refine h0 (fun hz => ?_) _ (kF.new hq)
          have := hz k (by omega)
          omega
      · refine ⟨fun E x e => ?_, fun r e => (by cases e)⟩
        cases e
        refine ⟨rfl, ?_⟩
        refine h0 (fun hz => ?_) _ ((kF.new hq).trans' (kF.new ha))
        have := hz k (by omega)
        omega
  exact ⟨10, L 9 0 _ _ rfl _ (fun x hx => by omega) (by omega) (by omega)⟩
theorem kC_addE {a b : Int} (ha : -4611686018427387904 ≤ a ∧ a < 4611686018427387904) (hb : -4611686018427387904 ≤ b ∧ b < 4611686018427387904) (Q : Int64 → Prop) (q : Q (i64 (a + b))) : wJ9_addExact (i64 a) (i64 b) Q := by
  unfold wJ9_addExact
  rw [i64_add]
  refine ⟨fun _ => q, fun e => e ?_⟩
  rw [i64_sgn, Int64.toBitVec_and, BitVec.msb_and, Int64.toBitVec_xor, Int64.toBitVec_xor, BitVec.msb_xor, BitVec.msb_xor]
  have m : ∀ v : Int, -9223372036854775808 ≤ v → v < 9223372036854775808 → (i64 v).toBitVec.msb = decide (v < 0) := by
    intro v h1 h2
    rw [BitVec.msb_eq_toInt]
    show decide ((i64 v).toInt < 0) = _
    rw [i64_toInt h1 h2]
  rw [m a (by omega) (by omega), m b (by omega) (by omega), m (a + b) (by omega) (by omega)]
  by_cases h1 : a < 0 <;> by_cases h2 : b < 0 <;> by_cases h3 : a + b < 0 <;> simp [h1, h2, h3] <;> omega
