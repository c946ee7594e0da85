/-! CLASS 5: product, expanded, expansion -/
set_option maxRecDepth 100000
/-- a product under way: the first i rows and j places of the next -/
def zpq (M : Int) (f g : Nat → Int) (i j : Nat) : Nat → Int := fun k => zcv M f g k (if k < i then k + 1 else if k < i + j then i + 1 else i)
theorem zpq_0 (M : Int) (f g : Nat → Int) : (fun _ => 0) = zpq M f g 0 0 := by
  funext k
  unfold zpq
  rw [if_neg (by omega), if_neg (by omega)]
  rfl
theorem zpq_9 (M : Int) (f g : Nat → Int) (k : Nat) (hk : k < 9) : zpq M f g 9 0 k = zpm M f g k := by
  unfold zpq zpm
  rw [if_pos hk]
theorem zpq_n (M : Int) (f g : Nat → Int) (i j : Nat) (h : 9 ≤ i + j) (k : Nat) (hk : k < 9) : zpq M f g i j k = zpq M f g (i + 1) 0 k := by
  unfold zpq
  by_cases c : k < i
  · rw [if_pos c, if_pos (by omega)]
  · rw [if_neg c, if_pos (by omega)]
    by_cases c2 : k = i
    · rw [if_pos (by omega), c2]
    · rw [if_neg (by omega), if_neg (by omega)]
theorem zpq_z (M : Int) (hM : 0 < M) (f g : Nat → Int) (i : Nat) (h : f i = 0) (k : Nat) : zpq M f g i 0 k = zpq M f g (i + 1) 0 k := by
  unfold zpq
  by_cases c : k < i
  · rw [if_pos c, if_pos (by omega)]
  · have e : zcv M f g k i = zcv M f g k (i + 1) := by
      have r := zcv_red hM (f := f) (g := g) (k := k) i
      show _ = (zcv M f g k i + f i * g (k - i)) % M
      rw [h, Int.zero_mul, Int.add_zero, Int.emod_eq_of_lt r.1 r.2]
    rw [if_neg c, if_neg (by omega), e]
    by_cases c2 : k = i
    · rw [if_pos (by omega), c2]
    · rw [if_neg (by omega), if_neg (by omega)]
theorem zpq_s (M : Int) (f g : Nat → Int) (i j : Nat) : zup (zpq M f g i j) (i + j) ((zpq M f g i j (i + j) + f i * g j) % M) = zpq M f g i (j + 1) := by
  funext k
  unfold zup
  by_cases c : k = i + j
  · subst c
    rw [if_pos rfl]
    unfold zpq
    rw [if_neg (by omega), if_neg (by omega), if_neg (by omega), if_pos (by omega)]
    show _ = (zcv M f g (i + j) i + f i * g (i + j - i)) % M
    rw [show i + j - i = j from by omega]
  · rw [if_neg c]
    unfold zpq
    by_cases c1 : k < i
    · rw [if_pos c1, if_pos c1]
    · rw [if_neg c1, if_neg c1]
      by_cases c2 : k < i + j
      · rw [if_pos c2, if_pos (by omega)]
      · rw [if_neg c2, if_neg (by omega)]
theorem kC_product {S : hH} {A : Nat → Nat} {p M : Int} {tr : Option Nat} (o0 : S (A 0) = some (kOb A p M tr)) {a b : Nat} {f g : Nat → Int} (ja : S a = some (kJ 9 f)) (jb : S b = some (kJ 9 g)) (hM : 1 < M) (hM2 : M < 536870912) (rf : zred M 9 f) (rg : zred M 9 g) (mc ms : Nat) (hmc : 1 ≤ mc) (hms : 9 ≤ ms) (Q : Nat → hH → Prop) (q : ∀ r, S r = none → Q r (hup S r (kJ 9 (zpm M f g)))) : wX0_product mc ms S (A 0) a b Q := by
  unfold wX0_product
  refine ⟨by omega, by omega, ?_⟩
  intro r hr
  rw [kJ_new, zpq_0 M f g]
  try simp (disch := first | assumption | omega) only [zl32, zl64, i32_add, i32_sub, i32_mul, i32_neg, i64_add, i64_sub, i64_mul, i64_neg, cv_gi, cv_gw, cv_ga, cv_gl, cv_pi, cv_pw, cv_pa, cv_pl, zf_S, zf_i, zf_l, mz1, mz2, mz3, mz4, kn_haI, kn_haJ, kn_haQ, kn_gaI, kn_gaJ, kn_gaQ, kn_hoA, kn_hlen, kn_hfI, kn_hfJ, kn_hfR, kn_hfN, kn_hoI, kn_hoJ, kn_hoR, kn_hoN, kn_hoC, kn_hoP, kn_paI, kn_paJ, kn_paQ, kn_hpF, kuI_ha, kuI_ga, kuI_pa, kuI_hA, kuI_ln, kuB_ha, kuB_ga, kuB_pa, kuB_hA, kuB_ln, kuJ_ha, kuJ_ga, kuJ_pa, kuJ_hA, kuJ_ln, kuQ_ha, kuQ_ga, kuQ_pa, kuQ_hA, kuQ_ln, kuO_fI, kuO_fJ, kuO_fR, kuO_fN, kuO_oI, kuO_oJ, kuO_oR, kuO_oN, kuO_oC, kuO_oP, kuO_pF, kvI_s, kvJ_s, kvR_s, kvN_s, kvN_0, kvN_v, kpI_s, kpJ_s, kpR_s, kpN_s, kpN_0, kpN_v, List.getElem?_cons_zero, List.getElem?_cons_succ, List.set_cons_zero, List.set_cons_succ, List.length_cons, List.length_nil, forall_eq, exists_eq_left', Option.some.injEq, true_and, and_true, reduceIte, Nat.reduceEqDiff, Nat.reduceAdd, Nat.reduceLT, hup_hup, hup_at, eq_self, if_true, if_false, implies_true, true_implies, false_implies, not_true_eq_false, not_false_eq_true, or_true, true_or, i32_10, i32_01, kI_new, kB_new, kJ_new, kI_new2, kB_new2, kJ_new2, kQ_new, kO_new, zkd, zijd, zip1, zip, zim1, i32_natN, ziL, zi_0, zi_1]
  have n0 : A 0 ≠ r := kne o0 hr
  have na : a ≠ r := kne ja hr
  have nb : b ≠ r := kne jb hr
  have L2 : ∀ (i : Nat) (rec8 : hH → Int32 → Prop), i < 9 → rec8 (hup S r (kJ 9 (zpq M f g (i + 1) 0))) (i32 ((i : Int) + 1)) → ∀ n j : Nat, i + j + n = 9 → wX0_product_l18 mc ms rec8 Q (0 + 1) (0 + 9) (A 0) a b r (i32 i) (n + 1) (hup S r (kJ 9 (zpq M f g i j))) (i32 j) := by
    intro i rec8 hi hrec n
    induction n with
    | zero =>
      intro j hj
      rw [wX0_product_l18]
      try simp only [zl32, zl64, i32_add, i32_sub, i32_mul, i32_neg, i64_add, i64_sub, i64_mul, i64_neg, cv_gi, cv_gw, cv_ga, cv_gl, cv_pi, cv_pw, cv_pa, cv_pl, zf_S, zf_i, zf_l, mz1, mz2, mz3, mz4]
      repeat' (first | (exfalso; omega) | (with_reducible refine zb_in ?_ ?_ ?_ ?_; omega; omega; omega) | (with_reducible refine zb_le ?_ ?_ ?_ ?_ (fun _ => ?_) (fun _ => ?_); omega; omega; omega; omega) | (with_reducible refine zb_lt ?_ ?_ ?_ ?_ (fun _ => ?_) (fun _ => ?_); omega; omega; omega; omega) | (with_reducible refine zb_eq ?_ ?_ ?_ ?_ (fun _ => ?_) (fun _ => ?_); omega; omega; omega; omega) | (with_reducible refine zb_leL ?_ ?_ ?_ ?_ (fun _ => ?_) (fun _ => ?_); omega; omega; omega; omega) | (with_reducible refine zb_ltL ?_ ?_ ?_ ?_ (fun _ => ?_) (fun _ => ?_); omega; omega; omega; omega) | (with_reducible refine zb_eqL ?_ ?_ ?_ ?_ (fun _ => ?_) (fun _ => ?_); omega; omega; omega; omega) | (with_reducible refine zb_nz ?_ ?_ ?_ ?_; omega; omega; omega) | (with_reducible refine zb_nzL ?_ ?_ ?_ ?_; omega; omega; omega) | with_reducible refine zb_ite ?_ | with_reducible refine zb_iteL ?_ | ((with_reducible intro y hy); subst hy; try simp only [zl32, zl64, i32_add, i32_sub, i32_mul, i32_neg, i64_add, i64_sub, i64_mul, i64_neg, cv_gi, cv_gw, cv_ga, cv_gl, cv_pi, cv_pw, cv_pa, cv_pl, zf_S, zf_i, zf_l, mz1, mz2, mz3, mz4, zr_ii, zr_iw, zr_ia, zr_il, zr_wi, zr_ww, zr_wa, zr_wl, zr_ai, zr_aw, zr_aa, zr_al, zr_li, zr_lw, zr_la, zr_ll, zw_ii, zw_ww, zw_aa, zw_ll, reduceIte, Nat.reduceEqDiff, if_true, if_false]) | with_reducible refine zb_o1 ?_ | with_reducible refine zb_o2 ?_ | with_reducible refine zb_o3 ?_ | with_reducible refine zb_o4 ?_ | with_reducible refine zb_tr ?_ | exact trivial | with_reducible refine zb_T ?_ | with_reducible refine zb_sp ?_ ?_)
      rw [kJ_ext (zpq_n M f g i j (by omega))]
      exact hrec
    | succ n ih =>
      intro j hj
      rw [wX0_product_l18]
      have r1 := rf i (by omega)
      have r2 := rg j (by omega)
      have hm := ze_mulb r1.1 r1.2 r2.1 r2.2 hM2
      have r3 := zcv_red (M := M) (by omega) (f := f) (g := g) (k := i + j) i
      have e3 : zpq M f g i j (i + j) = zcv M f g (i + j) i := by
        unfold zpq
        rw [if_neg (by omega), if_neg (by omega)]
      try simp (disch := first | assumption | omega) only [zl32, zl64, i32_add, i32_sub, i32_mul, i32_neg, i64_add, i64_sub, i64_mul, i64_neg, cv_gi, cv_gw, cv_ga, cv_gl, cv_pi, cv_pw, cv_pa, cv_pl, zf_S, zf_i, zf_l, mz1, mz2, mz3, mz4, kn_haI, kn_haJ, kn_haQ, kn_gaI, kn_gaJ, kn_gaQ, kn_hoA, kn_hlen, kn_hfI, kn_hfJ, kn_hfR, kn_hfN, kn_hoI, kn_hoJ, kn_hoR, kn_hoN, kn_hoC, kn_hoP, kn_paI, kn_paJ, kn_paQ, kn_hpF, kuI_ha, kuI_ga, kuI_pa, kuI_hA, kuI_ln, kuB_ha, kuB_ga, kuB_pa, kuB_hA, kuB_ln, kuJ_ha, kuJ_ga, kuJ_pa, kuJ_hA, kuJ_ln, kuQ_ha, kuQ_ga, kuQ_pa, kuQ_hA, kuQ_ln, kuO_fI, kuO_fJ, kuO_fR, kuO_fN, kuO_oI, kuO_oJ, kuO_oR, kuO_oN, kuO_oC, kuO_oP, kuO_pF, kvI_s, kvJ_s, kvR_s, kvN_s, kvN_0, kvN_v, kpI_s, kpJ_s, kpR_s, kpN_s, kpN_0, kpN_v, List.getElem?_cons_zero, List.getElem?_cons_succ, List.set_cons_zero, List.set_cons_succ, List.length_cons, List.length_nil, forall_eq, exists_eq_left', Option.some.injEq, true_and, and_true, reduceIte, Nat.reduceEqDiff, Nat.reduceAdd, Nat.reduceLT, hup_hup, hup_at, eq_self, if_true, if_false, implies_true, true_implies, false_implies, not_true_eq_false, not_false_eq_true, or_true, true_or, i32_10, i32_01, kI_new, kB_new, kJ_new, kI_new2, kB_new2, kJ_new2, kQ_new, kO_new, zkd, zijd, zip1, zip, zim1, i32_natN, ziL, zi_0, zi_1, kO_fI o0, kO_fJ o0, kO_fR o0, kO_fN o0, kO_oI o0, kO_oJ o0, kO_oR o0, kO_oN o0, kO_oC o0, kO_oP o0, kO_pF o0, kJ_ha ja, kJ_ga ja, kJ_pa ja, kJ_hA ja, kJ_ln ja, kJ_ha jb, kJ_ga jb, kJ_pa jb, kJ_hA jb, kJ_ln jb, e3]
      repeat' (first | (exfalso; omega) | (with_reducible refine zb_in ?_ ?_ ?_ ?_; omega; omega; omega) | (with_reducible refine zb_le ?_ ?_ ?_ ?_ (fun _ => ?_) (fun _ => ?_); omega; omega; omega; omega) | (with_reducible refine zb_lt ?_ ?_ ?_ ?_ (fun _ => ?_) (fun _ => ?_); omega; omega; omega; omega) | (with_reducible refine zb_eq ?_ ?_ ?_ ?_ (fun _ => ?_) (fun _ => ?_); omega; omega; omega; omega) | (with_reducible refine zb_leL ?_ ?_ ?_ ?_ (fun _ => ?_) (fun _ => ?_); omega; omega; omega; omega) | (with_reducible refine zb_ltL ?_ ?_ ?_ ?_ (fun _ => ?_) (fun _ => ?_); omega; omega; omega; omega) | (with_reducible refine zb_eqL ?_ ?_ ?_ ?_ (fun _ => ?_) (fun _ => ?_); omega; omega; omega; omega) | (with_reducible refine zb_nz ?_ ?_ ?_ ?_; omega; omega; omega) | (with_reducible refine zb_nzL ?_ ?_ ?_ ?_; omega; omega; omega) | with_reducible refine zb_ite ?_ | with_reducible refine zb_iteL ?_ | ((with_reducible intro y hy); subst hy; try simp only [zl32, zl64, i32_add, i32_sub, i32_mul, i32_neg, i64_add, i64_sub, i64_mul, i64_neg, cv_gi, cv_gw, cv_ga, cv_gl, cv_pi, cv_pw, cv_pa, cv_pl, zf_S, zf_i, zf_l, mz1, mz2, mz3, mz4, zr_ii, zr_iw, zr_ia, zr_il, zr_wi, zr_ww, zr_wa, zr_wl, zr_ai, zr_aw, zr_aa, zr_al, zr_li, zr_lw, zr_la, zr_ll, zw_ii, zw_ww, zw_aa, zw_ll, reduceIte, Nat.reduceEqDiff, if_true, if_false]) | with_reducible refine zb_o1 ?_ | with_reducible refine zb_o2 ?_ | with_reducible refine zb_o3 ?_ | with_reducible refine zb_o4 ?_ | with_reducible refine zb_tr ?_ | exact trivial | with_reducible refine zb_T ?_ | with_reducible refine zb_sp ?_ ?_)
      · have hz : f i = 0 := by assumption
        have e : kJ 9 (zpq M f g i j) = kJ 9 (zpq M f g (i + 1) 0) := by
          refine kJ_ext (fun k _ => ?_)
          rw [← zpq_z M (by omega) f g i hz k]
          unfold zpq
          by_cases c1 : k < i
          · rw [if_pos c1, if_pos c1]
          · rw [if_neg c1, if_neg c1, if_neg (show ¬ k < i + 0 by omega)]
            by_cases c2 : k < i + j
            · rw [if_pos c2]
              have r := zcv_red (M := M) (by omega) (f := f) (g := g) (k := k) i
              show (zcv M f g k i + f i * g (k - i)) % M = _
              rw [hz, Int.zero_mul, Int.add_zero, Int.emod_eq_of_lt r.1 r.2]
            · rw [if_neg c2]
        rw [e]
        exact hrec
      · rw [i64_div (by omega) (by omega) (by omega) (by omega)]
        try simp (disch := first | assumption | omega) only [zl32, zl64, i32_add, i32_sub, i32_mul, i32_neg, i64_add, i64_sub, i64_mul, i64_neg, cv_gi, cv_gw, cv_ga, cv_gl, cv_pi, cv_pw, cv_pa, cv_pl, zf_S, zf_i, zf_l, mz1, mz2, mz3, mz4, kn_haI, kn_haJ, kn_haQ, kn_gaI, kn_gaJ, kn_gaQ, kn_hoA, kn_hlen, kn_hfI, kn_hfJ, kn_hfR, kn_hfN, kn_hoI, kn_hoJ, kn_hoR, kn_hoN, kn_hoC, kn_hoP, kn_paI, kn_paJ, kn_paQ, kn_hpF, kuI_ha, kuI_ga, kuI_pa, kuI_hA, kuI_ln, kuB_ha, kuB_ga, kuB_pa, kuB_hA, kuB_ln, kuJ_ha, kuJ_ga, kuJ_pa, kuJ_hA, kuJ_ln, kuQ_ha, kuQ_ga, kuQ_pa, kuQ_hA, kuQ_ln, kuO_fI, kuO_fJ, kuO_fR, kuO_fN, kuO_oI, kuO_oJ, kuO_oR, kuO_oN, kuO_oC, kuO_oP, kuO_pF, kvI_s, kvJ_s, kvR_s, kvN_s, kvN_0, kvN_v, kpI_s, kpJ_s, kpR_s, kpN_s, kpN_0, kpN_v, List.getElem?_cons_zero, List.getElem?_cons_succ, List.set_cons_zero, List.set_cons_succ, List.length_cons, List.length_nil, forall_eq, exists_eq_left', Option.some.injEq, true_and, and_true, reduceIte, Nat.reduceEqDiff, Nat.reduceAdd, Nat.reduceLT, hup_hup, hup_at, eq_self, if_true, if_false, implies_true, true_implies, false_implies, not_true_eq_false, not_false_eq_true, or_true, true_or, i32_10, i32_01, kI_new, kB_new, kJ_new, kI_new2, kB_new2, kJ_new2, kQ_new, kO_new, zkd, zijd, zip1, zip, zim1, i32_natN, ziL, zi_0, zi_1, kJ_ha ja, kJ_ga ja, kJ_pa ja, kJ_hA ja, kJ_ln ja]
        rw [ze_tmod, ze_tmodn (by omega)]
        have e := ih (j + 1) (by omega)
        rw [← zpq_s, e3] at e
        exact e
  have L : ∀ n i : Nat, i + n = 9 → wX0_product_l8 mc ms Q (0 + 1) (0 + 9) (A 0) a b r (n + 1) (hup S r (kJ 9 (zpq M f g i 0))) (i32 i) := by
    intro n
    induction n with
    | zero =>
      intro i hi
      have : i = 9 := by omega
      subst this
      rw [wX0_product_l8]
      try simp only [zl32, zl64, i32_add, i32_sub, i32_mul, i32_neg, i64_add, i64_sub, i64_mul, i64_neg, cv_gi, cv_gw, cv_ga, cv_gl, cv_pi, cv_pw, cv_pa, cv_pl, zf_S, zf_i, zf_l, mz1, mz2, mz3, mz4]
      repeat' (first | (exfalso; omega) | (with_reducible refine zb_in ?_ ?_ ?_ ?_; omega; omega; omega) | (with_reducible refine zb_le ?_ ?_ ?_ ?_ (fun _ => ?_) (fun _ => ?_); omega; omega; omega; omega) | (with_reducible refine zb_lt ?_ ?_ ?_ ?_ (fun _ => ?_) (fun _ => ?_); omega; omega; omega; omega) | (with_reducible refine zb_eq ?_ ?_ ?_ ?_ (fun _ => ?_) (fun _ => ?_); omega; omega; omega; omega) | (with_reducible refine zb_leL ?_ ?_ ?_ ?_ (fun _ => ?_) (fun _ => ?_); omega; omega; omega; omega) | (with_reducible refine zb_ltL ?_ ?_ ?_ ?_ (fun _ => ?_) (fun _ => ?_); omega; omega; omega; omega) | (with_reducible refine zb_eqL ?_ ?_ ?_ ?_ (fun _ => ?_) (fun _ => ?_); omega; omega; omega; omega) | (with_reducible refine zb_nz ?_ ?_ ?_ ?_; omega; omega; omega) | (with_reducible refine zb_nzL ?_ ?_ ?_ ?_; omega; omega; omega) | with_reducible refine zb_ite ?_ | with_reducible refine zb_iteL ?_ | ((with_reducible intro y hy); subst hy; try simp only [zl32, zl64, i32_add, i32_sub, i32_mul, i32_neg, i64_add, i64_sub, i64_mul, i64_neg, cv_gi, cv_gw, cv_ga, cv_gl, cv_pi, cv_pw, cv_pa, cv_pl, zf_S, zf_i, zf_l, mz1, mz2, mz3, mz4, zr_ii, zr_iw, zr_ia, zr_il, zr_wi, zr_ww, zr_wa, zr_wl, zr_ai, zr_aw, zr_aa, zr_al, zr_li, zr_lw, zr_la, zr_ll, zw_ii, zw_ww, zw_aa, zw_ll, reduceIte, Nat.reduceEqDiff, if_true, if_false]) | with_reducible refine zb_o1 ?_ | with_reducible refine zb_o2 ?_ | with_reducible refine zb_o3 ?_ | with_reducible refine zb_o4 ?_ | with_reducible refine zb_tr ?_ | exact trivial | with_reducible refine zb_T ?_ | with_reducible refine zb_sp ?_ ?_)
      rw [kJ_ext (zpq_9 M f g)]
      exact q r hr
    | succ n ih =>
      intro i hi
      rw [wX0_product_l8]
      try simp only [zl32, zl64, i32_add, i32_sub, i32_mul, i32_neg, i64_add, i64_sub, i64_mul, i64_neg, cv_gi, cv_gw, cv_ga, cv_gl, cv_pi, cv_pw, cv_pa, cv_pl, zf_S, zf_i, zf_l, mz1, mz2, mz3, mz4]
      repeat' (first | (exfalso; omega) | (with_reducible refine zb_in ?_ ?_ ?_ ?_; omega; omega; omega) | (with_reducible refine zb_le ?_ ?_ ?_ ?_ (fun _ => ?_) (fun _ => ?_); omega; omega; omega; omega) | (with_reducible refine zb_lt ?_ ?_ ?_ ?_ (fun _ => ?_) (fun _ => ?_); omega; omega; omega; omega) | (with_reducible refine zb_eq ?_ ?_ ?_ ?_ (fun _ => ?_) (fun _ => ?_); omega; omega; omega; omega) | (with_reducible refine zb_leL ?_ ?_ ?_ ?_ (fun _ => ?_) (fun _ => ?_); omega; omega; omega; omega) | (with_reducible refine zb_ltL ?_ ?_ ?_ ?_ (fun _ => ?_) (fun _ => ?_); omega; omega; omega; omega) | (with_reducible refine zb_eqL ?_ ?_ ?_ ?_ (fun _ => ?_) (fun _ => ?_); omega; omega; omega; omega) | (with_reducible refine zb_nz ?_ ?_ ?_ ?_; omega; omega; omega) | (with_reducible refine zb_nzL ?_ ?_ ?_ ?_; omega; omega; omega) | with_reducible refine zb_ite ?_ | with_reducible refine zb_iteL ?_ | ((with_reducible intro y hy); subst hy; try simp only [zl32, zl64, i32_add, i32_sub, i32_mul, i32_neg, i64_add, i64_sub, i64_mul, i64_neg, cv_gi, cv_gw, cv_ga, cv_gl, cv_pi, cv_pw, cv_pa, cv_pl, zf_S, zf_i, zf_l, mz1, mz2, mz3, mz4, zr_ii, zr_iw, zr_ia, zr_il, zr_wi, zr_ww, zr_wa, zr_wl, zr_ai, zr_aw, zr_aa, zr_al, zr_li, zr_lw, zr_la, zr_ll, zw_ii, zw_ww, zw_aa, zw_ll, reduceIte, Nat.reduceEqDiff, if_true, if_false]) | with_reducible refine zb_o1 ?_ | with_reducible refine zb_o2 ?_ | with_reducible refine zb_o3 ?_ | with_reducible refine zb_o4 ?_ | with_reducible refine zb_tr ?_ | exact trivial | with_reducible refine zb_T ?_ | with_reducible refine zb_sp ?_ ?_)
      exact ⟨_, L2 i (fun z z4 => wX0_product_l8 mc ms Q (0 + 1) (0 + 9) (A 0) a b r (n + 1) z z4) (by omega) (ih (i + 1) (by omega)) (9 - i) 0 (by omega)⟩
  exact ⟨10, L 9 0 rfl⟩
theorem kScr.j {A : Nat → Nat} {S : hH} (h : kScr A S) (k : Nat) (hk : (1 ≤ k ∧ k ≤ 2) ∨ (14 ≤ k ∧ k < 77)) : ∃ g, S (A k) = some (kJ 9 g) := by
  rcases hk with hk | hk
  · exact h.1 k hk.1 hk.2
  · exact h.2.2.2.2 k hk.1 hk.2
/-- what the parts in a room take -/
def kRm (A : Nat → Nat) (r : Nat) (q : Nat) : Prop := q = A 1 ∨ q = A 2 ∨ ∃ i, i < 9 ∧ q = A (14 + 9 * r + i)
def kSc (A : Nat → Nat) (q : Nat) : Prop := ∃ k, 1 ≤ k ∧ k < 77 ∧ q = A k
theorem kRm.sc {A : Nat → Nat} {r q : Nat} (hr : r < 7) (h : kRm A r q) : kSc A q := by
  rcases h with h | h | ⟨i, hi, h⟩
  · exact ⟨1, by omega, by omega, h⟩
  · exact ⟨2, by omega, by omega, h⟩
  · exact ⟨_, by omega, by omega, h⟩
theorem kRm.no {A : Nat → Nat} {L : Nat → Prop} (hA : kInj A L) {r k : Nat} (hk : k < 90) (hr : r < 7) (h1 : k ≠ 1) (h2 : k ≠ 2) (h3 : k < 14 + 9 * r ∨ 23 + 9 * r ≤ k) : ¬ kRm A r (A k) := by
  intro h
  rcases h with h | h | ⟨i, hi, h⟩
  · exact hA.ne hk (by omega) h1 h
  · exact hA.ne hk (by omega) h2 h
  · exact hA.ne hk (by omega) (by omega) h
theorem kC_expanded {S : hH} {A : Nat → Nat} {L : Nat → Prop} (hA : kInj A L) {p M : Int} {tr : Option Nat} (o0 : S (A 0) = some (kOb A p M tr)) (hS : kScr A S) {f gg : Nat → Int} {fa ga : Nat} (jf : S fa = some (kJ 9 f)) (jg : S ga = some (kJ 9 gg)) (r : Nat) (hr : r < 7) (hg : ¬ kRm A r ga) (d : Nat) (hd : degN gg 9 = d) (hd1 : 1 ≤ d) (hg1 : gg d = 1) (hM : 1 < M) (hM2 : M < 536870912) (rg : zred M 9 gg) (rl : zred M 9 f) (Q : Nat → hH → Prop)
    (q : ∀ S1, kF (kRm A r) S S1 → kScr A S1 → (∀ i, i < 9 → S1 (A (14 + 9 * r + i)) = some (kJ 9 (zpart M gg d i f))) → Q (A (7 + r)) S1) : wX0_expanded S (A 0) fa ga (i32 r) Q := by
  obtain ⟨f6, q6, h6⟩ := hS.2.2.1
  have h6r := h6 r hr
  obtain ⟨f7, q7, h7⟩ := hS.2.2.2.1 r hr
  obtain ⟨g1, j1⟩ := hS.j 1 (by omega)
  have hd8 : d < 9 := by have := degN_lt gg 9; omega
  have hge : ∀ i, i < 9 → ga ≠ A (14 + 9 * r + i) := fun i hi e => hg (Or.inr (Or.inr ⟨i, hi, e⟩))
  have hg2 : ga ≠ A 2 := fun e => hg (Or.inr (Or.inl e))
  have hg1' : ga ≠ A 1 := fun e => hg (Or.inl e)
  have LL : ∀ n i : Nat, i + n = 9 → ∀ S1, kF (kRm A r) S S1 → kScr A S1 → S1 (A 1) = some (kJ 9 (zqn M gg d i f)) → (∀ j, j < i → S1 (A (14 + 9 * r + j)) = some (kJ 9 (zpart M gg d j f))) → wX0_expanded_l23 Q (A 0) ga (A (7 + r)) (n + 1) S1 (i32 i) := by
    intro n
    induction n with
    | zero =>
      intro i hi S1 hF hS1 h1 hp
      have : i = 9 := by omega
      subst this
      rw [wX0_expanded_l23]
      try simp only [zl32, zl64, i32_add, i32_sub, i32_mul, i32_neg, i64_add, i64_sub, i64_mul, i64_neg, cv_gi, cv_gw, cv_ga, cv_gl, cv_pi, cv_pw, cv_pa, cv_pl, zf_S, zf_i, zf_l, mz1, mz2, mz3, mz4]
      repeat' (first | (exfalso; omega) | (with_reducible refine zb_in ?_ ?_ ?_ ?_; omega; omega; omega) | (with_reducible refine zb_le ?_ ?_ ?_ ?_ (fun _ => ?_) (fun _ => ?_); omega; omega; omega; omega) | (with_reducible refine zb_lt ?_ ?_ ?_ ?_ (fun _ => ?_) (fun _ => ?_); omega; omega; omega; omega) | (with_reducible refine zb_eq ?_ ?_ ?_ ?_ (fun _ => ?_) (fun _ => ?_); omega; omega; omega; omega) | (with_reducible refine zb_leL ?_ ?_ ?_ ?_ (fun _ => ?_) (fun _ => ?_); omega; omega; omega; omega) | (with_reducible refine zb_ltL ?_ ?_ ?_ ?_ (fun _ => ?_) (fun _ => ?_); omega; omega; omega; omega) | (with_reducible refine zb_eqL ?_ ?_ ?_ ?_ (fun _ => ?_) (fun _ => ?_); omega; omega; omega; omega) | (with_reducible refine zb_nz ?_ ?_ ?_ ?_; omega; omega; omega) | (with_reducible refine zb_nzL ?_ ?_ ?_ ?_; omega; omega; omega) | with_reducible refine zb_ite ?_ | with_reducible refine zb_iteL ?_ | ((with_reducible intro y hy); subst hy; try simp only [zl32, zl64, i32_add, i32_sub, i32_mul, i32_neg, i64_add, i64_sub, i64_mul, i64_neg, cv_gi, cv_gw, cv_ga, cv_gl, cv_pi, cv_pw, cv_pa, cv_pl, zf_S, zf_i, zf_l, mz1, mz2, mz3, mz4, zr_ii, zr_iw, zr_ia, zr_il, zr_wi, zr_ww, zr_wa, zr_wl, zr_ai, zr_aw, zr_aa, zr_al, zr_li, zr_lw, zr_la, zr_ll, zw_ii, zw_ww, zw_aa, zw_ll, reduceIte, Nat.reduceEqDiff, if_true, if_false]) | with_reducible refine zb_o1 ?_ | with_reducible refine zb_o2 ?_ | with_reducible refine zb_o3 ?_ | with_reducible refine zb_o4 ?_ | with_reducible refine zb_tr ?_ | exact trivial | with_reducible refine zb_T ?_ | with_reducible refine zb_sp ?_ ?_)
      exact q S1 hF hS1 hp
    | succ n ih =>
      intro i hi S1 hF hS1 h1 hp
      have o0' := hF.at o0 (kRm.no hA (by omega) hr (by omega) (by omega) (by omega))
      have jg' := hF.at jg hg
      have q7' := hF.at q7 (kRm.no hA (by omega) hr (by omega) (by omega) (by omega))
      have h7i := h7 i (by omega)
      obtain ⟨gr, jr⟩ := hS1.j (14 + 9 * r + i) (by omega)
      obtain ⟨gq, j2⟩ := hS1.j 2 (by omega)
      rw [wX0_expanded_l23]
      try simp (disch := first | assumption | omega) only [zl32, zl64, i32_add, i32_sub, i32_mul, i32_neg, i64_add, i64_sub, i64_mul, i64_neg, cv_gi, cv_gw, cv_ga, cv_gl, cv_pi, cv_pw, cv_pa, cv_pl, zf_S, zf_i, zf_l, mz1, mz2, mz3, mz4, kn_haI, kn_haJ, kn_haQ, kn_gaI, kn_gaJ, kn_gaQ, kn_hoA, kn_hlen, kn_hfI, kn_hfJ, kn_hfR, kn_hfN, kn_hoI, kn_hoJ, kn_hoR, kn_hoN, kn_hoC, kn_hoP, kn_paI, kn_paJ, kn_paQ, kn_hpF, kuI_ha, kuI_ga, kuI_pa, kuI_hA, kuI_ln, kuB_ha, kuB_ga, kuB_pa, kuB_hA, kuB_ln, kuJ_ha, kuJ_ga, kuJ_pa, kuJ_hA, kuJ_ln, kuQ_ha, kuQ_ga, kuQ_pa, kuQ_hA, kuQ_ln, kuO_fI, kuO_fJ, kuO_fR, kuO_fN, kuO_oI, kuO_oJ, kuO_oR, kuO_oN, kuO_oC, kuO_oP, kuO_pF, kvI_s, kvJ_s, kvR_s, kvN_s, kvN_0, kvN_v, kpI_s, kpJ_s, kpR_s, kpN_s, kpN_0, kpN_v, List.getElem?_cons_zero, List.getElem?_cons_succ, List.set_cons_zero, List.set_cons_succ, List.length_cons, List.length_nil, forall_eq, exists_eq_left', Option.some.injEq, true_and, and_true, reduceIte, Nat.reduceEqDiff, Nat.reduceAdd, Nat.reduceLT, hup_hup, hup_at, eq_self, if_true, if_false, implies_true, true_implies, false_implies, not_true_eq_false, not_false_eq_true, or_true, true_or, i32_10, i32_01, kI_new, kB_new, kJ_new, kI_new2, kB_new2, kJ_new2, kQ_new, kO_new, zkd, zijd, zip1, zip, zim1, i32_natN, ziL, zi_0, zi_1, kQ_ha q7', kQ_ga q7', kQ_pa q7', kQ_hA q7', kQ_ln q7', kO_fI o0', kO_fJ o0', kO_fR o0', kO_fN o0', kO_oI o0', kO_oJ o0', kO_oR o0', kO_oN o0', kO_oC o0', kO_oP o0', kO_pF o0', h7i]
      repeat' (first | (exfalso; omega) | (with_reducible refine zb_in ?_ ?_ ?_ ?_; omega; omega; omega) | (with_reducible refine zb_le ?_ ?_ ?_ ?_ (fun _ => ?_) (fun _ => ?_); omega; omega; omega; omega) | (with_reducible refine zb_lt ?_ ?_ ?_ ?_ (fun _ => ?_) (fun _ => ?_); omega; omega; omega; omega) | (with_reducible refine zb_eq ?_ ?_ ?_ ?_ (fun _ => ?_) (fun _ => ?_); omega; omega; omega; omega) | (with_reducible refine zb_leL ?_ ?_ ?_ ?_ (fun _ => ?_) (fun _ => ?_); omega; omega; omega; omega) | (with_reducible refine zb_ltL ?_ ?_ ?_ ?_ (fun _ => ?_) (fun _ => ?_); omega; omega; omega; omega) | (with_reducible refine zb_eqL ?_ ?_ ?_ ?_ (fun _ => ?_) (fun _ => ?_); omega; omega; omega; omega) | (with_reducible refine zb_nz ?_ ?_ ?_ ?_; omega; omega; omega) | (with_reducible refine zb_nzL ?_ ?_ ?_ ?_; omega; omega; omega) | with_reducible refine zb_ite ?_ | with_reducible refine zb_iteL ?_ | ((with_reducible intro y hy); subst hy; try simp only [zl32, zl64, i32_add, i32_sub, i32_mul, i32_neg, i64_add, i64_sub, i64_mul, i64_neg, cv_gi, cv_gw, cv_ga, cv_gl, cv_pi, cv_pw, cv_pa, cv_pl, zf_S, zf_i, zf_l, mz1, mz2, mz3, mz4, zr_ii, zr_iw, zr_ia, zr_il, zr_wi, zr_ww, zr_wa, zr_wl, zr_ai, zr_aw, zr_aa, zr_al, zr_li, zr_lw, zr_la, zr_ll, zw_ii, zw_ww, zw_aa, zw_ll, reduceIte, Nat.reduceEqDiff, if_true, if_false]) | with_reducible refine zb_o1 ?_ | with_reducible refine zb_o2 ?_ | with_reducible refine zb_o3 ?_ | with_reducible refine zb_o4 ?_ | with_reducible refine zb_tr ?_ | exact trivial | with_reducible refine zb_T ?_ | with_reducible refine zb_sp ?_ ?_)
      have n12 : A 1 ≠ A 2 := hA.ne (by omega) (by omega) (by omega)
      have nr1 : A (14 + 9 * r + i) ≠ A 1 := hA.ne (by omega) (by omega) (by omega)
      have nr2 : A (14 + 9 * r + i) ≠ A 2 := hA.ne (by omega) (by omega) (by omega)
      refine kC_divides o0' h1 j2 jr jg' n12 nr1 nr2 hg2 (hge i (by omega)) d hd hd1 hg1 hM hM2 rg (zred_zqn (by omega) i f rl) _ ?_
      have rr : ∀ k, k < 90 → k ≠ 1 → k ≠ 2 → k ≠ 14 + 9 * r + i → (hup (hup (hup S1 (A 2) (kJ 9 (zquo d (zdvw M gg d 0 9 (zqn M gg d i f))))) (A (14 + 9 * r + i)) (kJ 9 (zrem d (zdvw M gg d 0 9 (zqn M gg d i f))))) (A 1) (kJ 9 (zquo d (zdvw M gg d 0 9 (zqn M gg d i f))))) (A k) = S1 (A k) := by
        intro k hk k1 k2 k3
        rw [hup_ne (hA.ne hk (by omega) k1), hup_ne (hA.ne hk (by omega) k3), hup_ne (hA.ne hk (by omega) k2)]
      refine ih (i + 1) (by omega) _ ?_ ?_ ?_ ?_
      · exact hF.trans' ((((kF.up _ (Or.inr (Or.inl rfl))).trans' (kF.up _ (Or.inr (Or.inr ⟨i, by omega, rfl⟩)))).trans' (kF.up _ (Or.inl rfl))))
      · refine ⟨fun k k1 k2 => ?_, fun k k1 k2 => ?_, ?_, fun i' hi' => ?_, fun k k1 k2 => ?_⟩
        · by_cases c : k = 1
          · subst c
            exact ⟨_, hup_at _ _ _⟩
          · have : k = 2 := by omega
            subst this
            exact ⟨_, by rw [hup_ne (fun e => n12 e.symm), hup_ne (fun e => nr2 e.symm), hup_at]⟩
        · rw [rr k (by omega) (by omega) (by omega) (by omega)]
          exact hS1.2.1 k k1 k2
        · rw [rr 6 (by omega) (by omega) (by omega) (by omega)]
          exact hS1.2.2.1
        · rw [rr (7 + i') (by omega) (by omega) (by omega) (by omega)]
          exact hS1.2.2.2.1 i' hi'
        · by_cases c : k = 14 + 9 * r + i
          · subst c
            exact ⟨_, by rw [hup_ne nr1, hup_at]⟩
          · rw [rr k (by omega) (by omega) (by omega) c]
            exact hS1.2.2.2.2 k k1 k2
      · rw [hup_at, zqn_s]
      · intro j hj
        by_cases c : j = i
        · subst c
          rw [hup_ne nr1, hup_at]
          rfl
        · rw [rr _ (by omega) (by omega) (by omega) (by omega)]
          exact hp j (by omega)
  unfold wX0_expanded
  try simp (disch := first | assumption | omega) only [zl32, zl64, i32_add, i32_sub, i32_mul, i32_neg, i64_add, i64_sub, i64_mul, i64_neg, cv_gi, cv_gw, cv_ga, cv_gl, cv_pi, cv_pw, cv_pa, cv_pl, zf_S, zf_i, zf_l, mz1, mz2, mz3, mz4, kn_haI, kn_haJ, kn_haQ, kn_gaI, kn_gaJ, kn_gaQ, kn_hoA, kn_hlen, kn_hfI, kn_hfJ, kn_hfR, kn_hfN, kn_hoI, kn_hoJ, kn_hoR, kn_hoN, kn_hoC, kn_hoP, kn_paI, kn_paJ, kn_paQ, kn_hpF, kuI_ha, kuI_ga, kuI_pa, kuI_hA, kuI_ln, kuB_ha, kuB_ga, kuB_pa, kuB_hA, kuB_ln, kuJ_ha, kuJ_ga, kuJ_pa, kuJ_hA, kuJ_ln, kuQ_ha, kuQ_ga, kuQ_pa, kuQ_hA, kuQ_ln, kuO_fI, kuO_fJ, kuO_fR, kuO_fN, kuO_oI, kuO_oJ, kuO_oR, kuO_oN, kuO_oC, kuO_oP, kuO_pF, kvI_s, kvJ_s, kvR_s, kvN_s, kvN_0, kvN_v, kpI_s, kpJ_s, kpR_s, kpN_s, kpN_0, kpN_v, List.getElem?_cons_zero, List.getElem?_cons_succ, List.set_cons_zero, List.set_cons_succ, List.length_cons, List.length_nil, forall_eq, exists_eq_left', Option.some.injEq, true_and, and_true, reduceIte, Nat.reduceEqDiff, Nat.reduceAdd, Nat.reduceLT, hup_hup, hup_at, eq_self, if_true, if_false, implies_true, true_implies, false_implies, not_true_eq_false, not_false_eq_true, or_true, true_or, i32_10, i32_01, kI_new, kB_new, kJ_new, kI_new2, kB_new2, kJ_new2, kQ_new, kO_new, zkd, zijd, zip1, zip, zim1, i32_natN, ziL, zi_0, zi_1, kO_fI o0, kO_fJ o0, kO_fR o0, kO_fN o0, kO_oI o0, kO_oJ o0, kO_oR o0, kO_oN o0, kO_oC o0, kO_oP o0, kO_pF o0, kQ_ha q6, kQ_ga q6, kQ_pa q6, kQ_hA q6, kQ_ln q6, h6r]
  repeat' (first | (exfalso; omega) | (with_reducible refine zb_in ?_ ?_ ?_ ?_; omega; omega; omega) | (with_reducible refine zb_le ?_ ?_ ?_ ?_ (fun _ => ?_) (fun _ => ?_); omega; omega; omega; omega) | (with_reducible refine zb_lt ?_ ?_ ?_ ?_ (fun _ => ?_) (fun _ => ?_); omega; omega; omega; omega) | (with_reducible refine zb_eq ?_ ?_ ?_ ?_ (fun _ => ?_) (fun _ => ?_); omega; omega; omega; omega) | (with_reducible refine zb_leL ?_ ?_ ?_ ?_ (fun _ => ?_) (fun _ => ?_); omega; omega; omega; omega) | (with_reducible refine zb_ltL ?_ ?_ ?_ ?_ (fun _ => ?_) (fun _ => ?_); omega; omega; omega; omega) | (with_reducible refine zb_eqL ?_ ?_ ?_ ?_ (fun _ => ?_) (fun _ => ?_); omega; omega; omega; omega) | (with_reducible refine zb_nz ?_ ?_ ?_ ?_; omega; omega; omega) | (with_reducible refine zb_nzL ?_ ?_ ?_ ?_; omega; omega; omega) | with_reducible refine zb_ite ?_ | with_reducible refine zb_iteL ?_ | ((with_reducible intro y hy); subst hy; try simp only [zl32, zl64, i32_add, i32_sub, i32_mul, i32_neg, i64_add, i64_sub, i64_mul, i64_neg, cv_gi, cv_gw, cv_ga, cv_gl, cv_pi, cv_pw, cv_pa, cv_pl, zf_S, zf_i, zf_l, mz1, mz2, mz3, mz4, zr_ii, zr_iw, zr_ia, zr_il, zr_wi, zr_ww, zr_wa, zr_wl, zr_ai, zr_aw, zr_aa, zr_al, zr_li, zr_lw, zr_la, zr_ll, zw_ii, zw_ww, zw_aa, zw_ll, reduceIte, Nat.reduceEqDiff, if_true, if_false]) | with_reducible refine zb_o1 ?_ | with_reducible refine zb_o2 ?_ | with_reducible refine zb_o3 ?_ | with_reducible refine zb_o4 ?_ | with_reducible refine zb_tr ?_ | exact trivial | with_reducible refine zb_T ?_ | with_reducible refine zb_sp ?_ ?_)
  refine ⟨_, _, _, _, jf, j1, by omega, by omega, ?_⟩
  rw [kJ_cpy]
  refine ⟨10, ?_⟩
  refine LL 9 0 rfl _ (kF.up _ (Or.inl rfl)) ?_ (hup_at _ _ _) (fun j hj => by omega)
  have rr : ∀ k, k < 90 → k ≠ 1 → (hup S (A 1) (kJ 9 f)) (A k) = S (A k) := fun k hk k1 => hup_ne (hA.ne hk (by omega) k1)
  refine ⟨fun k k1 k2 => ?_, fun k k1 k2 => ?_, ?_, fun i' hi' => ?_, fun k k1 k2 => ?_⟩
  · by_cases c : k = 1
    · subst c
      exact ⟨_, hup_at _ _ _⟩
    · rw [rr k (by omega) c]
      exact hS.1 k k1 k2
  · rw [rr k (by omega) (by omega)]
    exact hS.2.1 k k1 k2
  · rw [rr 6 (by omega) (by omega)]
    exact hS.2.2.1
  · rw [rr (7 + i') (by omega) (by omega)]
    exact hS.2.2.2.1 i' hi'
  · rw [rr k (by omega) (by omega)]
    exact hS.2.2.2.2 k k1 k2
