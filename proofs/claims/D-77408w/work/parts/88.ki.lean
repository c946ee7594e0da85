/-! CLASS 9: residues: last, factorsOf -/
set_option maxRecDepth 100000
theorem ze_inv {p l li x : Int} (h : li * l % p = 1) (h0 : 0 ≤ x) (h1 : x < p) : l * x % p * li % p = x := by
  rw [Int.mul_emod, ze_ee, ← Int.mul_emod, show l * x * li = li * l * x from by rw [Int.mul_right_comm, Int.mul_comm l li], Int.mul_emod, h, Int.one_mul, ze_ee]
  exact Int.emod_eq_of_lt h0 h1
theorem kC_last {S : hH} {A : Nat → Nat} {p M : Int} {tr : Option Nat} (o0 : S (A 0) = some (kOb A p M tr)) {R : Nat → Int} {fa : Nat} (ia : S fa = some (kI 9 R)) (hp : zpr p) (l : Int) (hl : 0 < l) (hl2 : l < p) (F : Nat → Int) (L : Nat) (hL : L < 9) (rF : zred p 9 F) (hF1 : F L = 1) (hR : zRl p l L F R) (mc ms : Nat) (hmc : 2 ≤ mc) (hms : 12 ≤ ms) (Q : Nat → hH → Prop)
    (q : ∀ r a, S r = none → S a = none → r ≠ a → Q r (hup (hup S a (kI 9 (fun k => if k ≤ L then F k else 0))) r (kO 5 [.ref a, .int (i32 L), .int (i32 1)]))) : wX0_last mc ms S (A 0) fa Q := by
  have hp7 : 2 ≤ p ∧ p ≤ 7 := by unfold zpr at hp; omega
  have rR := hR.red (by omega)
  have dR := hR.deg hL hl hl2 hF1
  have eL : R L = l := by
    rw [hR.1 L (Nat.le_refl _), hF1, Int.mul_one]
    exact Int.emod_eq_of_lt (by omega) hl2
  have hi := zinv_ok hp (v := l) (by omega) hl2
  unfold wX0_last
  refine kC_degreeOf ia (fun x hx => by have := rR x hx; omega) _ ?_
  rw [dR]
  try simp (disch := first | assumption | omega) only [zl32, zl64, i32_add, i32_sub, i32_mul, i32_neg, i64_add, i64_sub, i64_mul, i64_neg, cv_gi, cv_gw, cv_ga, cv_gl, cv_pi, cv_pw, cv_pa, cv_pl, zf_S, zf_i, zf_l, mz1, mz2, mz3, mz4, kn_haI, kn_haJ, kn_haQ, kn_gaI, kn_gaJ, kn_gaQ, kn_hoA, kn_hlen, kn_hfI, kn_hfJ, kn_hfR, kn_hfN, kn_hoI, kn_hoJ, kn_hoR, kn_hoN, kn_hoC, kn_hoP, kn_paI, kn_paJ, kn_paQ, kn_hpF, kuI_ha, kuI_ga, kuI_pa, kuI_hA, kuI_ln, kuB_ha, kuB_ga, kuB_pa, kuB_hA, kuB_ln, kuJ_ha, kuJ_ga, kuJ_pa, kuJ_hA, kuJ_ln, kuQ_ha, kuQ_ga, kuQ_pa, kuQ_hA, kuQ_ln, kuO_fI, kuO_fJ, kuO_fR, kuO_fN, kuO_oI, kuO_oJ, kuO_oR, kuO_oN, kuO_oC, kuO_oP, kuO_pF, kvI_s, kvJ_s, kvR_s, kvN_s, kvN_0, kvN_v, kpI_s, kpJ_s, kpR_s, kpN_s, kpN_0, kpN_v, List.getElem?_cons_zero, List.getElem?_cons_succ, List.set_cons_zero, List.set_cons_succ, List.length_cons, List.length_nil, forall_eq, exists_eq_left', Option.some.injEq, true_and, and_true, reduceIte, Nat.reduceEqDiff, Nat.reduceAdd, Nat.reduceLT, hup_hup, hup_at, eq_self, if_true, if_false, implies_true, true_implies, false_implies, not_true_eq_false, not_false_eq_true, or_true, true_or, i32_10, i32_01, kI_new, kB_new, kJ_new, kI_new2, kB_new2, kJ_new2, kQ_new, kO_new, zkd, zijd, zip1, zip, zim1, i32_natN, ziL, zi_0, zi_1, kO_fI o0, kO_fJ o0, kO_fR o0, kO_fN o0, kO_oI o0, kO_oJ o0, kO_oR o0, kO_oN o0, kO_oC o0, kO_oP o0, kO_pF o0, kI_ha ia, kI_ga ia, kI_pa ia, kI_hA ia, kI_ln ia]
  repeat' (first | (exfalso; omega) | (with_reducible refine zb_in ?_ ?_ ?_ ?_; omega; omega; omega) | (with_reducible refine zb_le ?_ ?_ ?_ ?_ (fun _ => ?_) (fun _ => ?_); omega; omega; omega; omega) | (with_reducible refine zb_lt ?_ ?_ ?_ ?_ (fun _ => ?_) (fun _ => ?_); omega; omega; omega; omega) | (with_reducible refine zb_eq ?_ ?_ ?_ ?_ (fun _ => ?_) (fun _ => ?_); omega; omega; omega; omega) | (with_reducible refine zb_leL ?_ ?_ ?_ ?_ (fun _ => ?_) (fun _ => ?_); omega; omega; omega; omega) | (with_reducible refine zb_ltL ?_ ?_ ?_ ?_ (fun _ => ?_) (fun _ => ?_); omega; omega; omega; omega) | (with_reducible refine zb_eqL ?_ ?_ ?_ ?_ (fun _ => ?_) (fun _ => ?_); omega; omega; omega; omega) | (with_reducible refine zb_nz ?_ ?_ ?_ ?_; omega; omega; omega) | (with_reducible refine zb_nzL ?_ ?_ ?_ ?_; omega; omega; omega) | with_reducible refine zb_ite ?_ | with_reducible refine zb_iteL ?_ | ((with_reducible intro y hy); subst hy; try simp only [zl32, zl64, i32_add, i32_sub, i32_mul, i32_neg, i64_add, i64_sub, i64_mul, i64_neg, cv_gi, cv_gw, cv_ga, cv_gl, cv_pi, cv_pw, cv_pa, cv_pl, zf_S, zf_i, zf_l, mz1, mz2, mz3, mz4, zr_ii, zr_iw, zr_ia, zr_il, zr_wi, zr_ww, zr_wa, zr_wl, zr_ai, zr_aw, zr_aa, zr_al, zr_li, zr_lw, zr_la, zr_ll, zw_ii, zw_ww, zw_aa, zw_ll, reduceIte, Nat.reduceEqDiff, if_true, if_false]) | with_reducible refine zb_o1 ?_ | with_reducible refine zb_o2 ?_ | with_reducible refine zb_o3 ?_ | with_reducible refine zb_o4 ?_ | with_reducible refine zb_tr ?_ | exact trivial | with_reducible refine zb_T ?_ | with_reducible refine zb_sp ?_ ?_)
  rw [eL]
  refine kC_inverse o0 hp l (by omega) hl2 _ ?_
  refine ⟨by omega, by omega, ?_⟩
  intro a ha
  have n0 : A 0 ≠ a := kne o0 ha
  have nf : fa ≠ a := kne ia ha
  try simp (disch := first | assumption | omega) only [zl32, zl64, i32_add, i32_sub, i32_mul, i32_neg, i64_add, i64_sub, i64_mul, i64_neg, cv_gi, cv_gw, cv_ga, cv_gl, cv_pi, cv_pw, cv_pa, cv_pl, zf_S, zf_i, zf_l, mz1, mz2, mz3, mz4, kn_haI, kn_haJ, kn_haQ, kn_gaI, kn_gaJ, kn_gaQ, kn_hoA, kn_hlen, kn_hfI, kn_hfJ, kn_hfR, kn_hfN, kn_hoI, kn_hoJ, kn_hoR, kn_hoN, kn_hoC, kn_hoP, kn_paI, kn_paJ, kn_paQ, kn_hpF, kuI_ha, kuI_ga, kuI_pa, kuI_hA, kuI_ln, kuB_ha, kuB_ga, kuB_pa, kuB_hA, kuB_ln, kuJ_ha, kuJ_ga, kuJ_pa, kuJ_hA, kuJ_ln, kuQ_ha, kuQ_ga, kuQ_pa, kuQ_hA, kuQ_ln, kuO_fI, kuO_fJ, kuO_fR, kuO_fN, kuO_oI, kuO_oJ, kuO_oR, kuO_oN, kuO_oC, kuO_oP, kuO_pF, kvI_s, kvJ_s, kvR_s, kvN_s, kvN_0, kvN_v, kpI_s, kpJ_s, kpR_s, kpN_s, kpN_0, kpN_v, List.getElem?_cons_zero, List.getElem?_cons_succ, List.set_cons_zero, List.set_cons_succ, List.length_cons, List.length_nil, forall_eq, exists_eq_left', Option.some.injEq, true_and, and_true, reduceIte, Nat.reduceEqDiff, Nat.reduceAdd, Nat.reduceLT, hup_hup, hup_at, eq_self, if_true, if_false, implies_true, true_implies, false_implies, not_true_eq_false, not_false_eq_true, or_true, true_or, i32_10, i32_01, kI_new, kB_new, kJ_new, kI_new2, kB_new2, kJ_new2, kQ_new, kO_new, zkd, zijd, zip1, zip, zim1, i32_natN, ziL, zi_0, zi_1]
  have LL : ∀ n k : Nat, k + n = L + 1 → ∀ g : Nat → Int, (∀ x, x < 9 → g x = if x < k then F x else 0) → wX0_last_l22 mc ms Q (0 + 1) (0 + 9) (A 0) fa (i32 L) (i32 (zinv p l)) a (n + 1) (hup S a (kI 9 g)) (i32 k) := by
    intro n
    induction n with
    | zero =>
      intro k hk g hg
      rw [wX0_last_l22]
      try simp only [zl32, zl64, i32_add, i32_sub, i32_mul, i32_neg, i64_add, i64_sub, i64_mul, i64_neg, cv_gi, cv_gw, cv_ga, cv_gl, cv_pi, cv_pw, cv_pa, cv_pl, zf_S, zf_i, zf_l, mz1, mz2, mz3, mz4]
      repeat' (first | (exfalso; omega) | (with_reducible refine zb_in ?_ ?_ ?_ ?_; omega; omega; omega) | (with_reducible refine zb_le ?_ ?_ ?_ ?_ (fun _ => ?_) (fun _ => ?_); omega; omega; omega; omega) | (with_reducible refine zb_lt ?_ ?_ ?_ ?_ (fun _ => ?_) (fun _ => ?_); omega; omega; omega; omega) | (with_reducible refine zb_eq ?_ ?_ ?_ ?_ (fun _ => ?_) (fun _ => ?_); omega; omega; omega; omega) | (with_reducible refine zb_leL ?_ ?_ ?_ ?_ (fun _ => ?_) (fun _ => ?_); omega; omega; omega; omega) | (with_reducible refine zb_ltL ?_ ?_ ?_ ?_ (fun _ => ?_) (fun _ => ?_); omega; omega; omega; omega) | (with_reducible refine zb_eqL ?_ ?_ ?_ ?_ (fun _ => ?_) (fun _ => ?_); omega; omega; omega; omega) | (with_reducible refine zb_nz ?_ ?_ ?_ ?_; omega; omega; omega) | (with_reducible refine zb_nzL ?_ ?_ ?_ ?_; omega; omega; omega) | with_reducible refine zb_ite ?_ | with_reducible refine zb_iteL ?_ | ((with_reducible intro y hy); subst hy; try simp only [zl32, zl64, i32_add, i32_sub, i32_mul, i32_neg, i64_add, i64_sub, i64_mul, i64_neg, cv_gi, cv_gw, cv_ga, cv_gl, cv_pi, cv_pw, cv_pa, cv_pl, zf_S, zf_i, zf_l, mz1, mz2, mz3, mz4, zr_ii, zr_iw, zr_ia, zr_il, zr_wi, zr_ww, zr_wa, zr_wl, zr_ai, zr_aw, zr_aa, zr_al, zr_li, zr_lw, zr_la, zr_ll, zw_ii, zw_ww, zw_aa, zw_ll, reduceIte, Nat.reduceEqDiff, if_true, if_false]) | with_reducible refine zb_o1 ?_ | with_reducible refine zb_o2 ?_ | with_reducible refine zb_o3 ?_ | with_reducible refine zb_o4 ?_ | with_reducible refine zb_tr ?_ | exact trivial | with_reducible refine zb_T ?_ | with_reducible refine zb_sp ?_ ?_)
      refine ⟨by omega, by omega, ?_⟩
      intro r hr
      have nra : r ≠ a := by
        intro e
        rw [e, hup_at] at hr
        cases hr
      have hrS : S r = none := by rw [hup_ne nra] at hr; exact hr
      rw [kO_new]
      unfold wX5_init
      try simp (disch := first | assumption | omega) only [zl32, zl64, i32_add, i32_sub, i32_mul, i32_neg, i64_add, i64_sub, i64_mul, i64_neg, cv_gi, cv_gw, cv_ga, cv_gl, cv_pi, cv_pw, cv_pa, cv_pl, zf_S, zf_i, zf_l, mz1, mz2, mz3, mz4, kn_haI, kn_haJ, kn_haQ, kn_gaI, kn_gaJ, kn_gaQ, kn_hoA, kn_hlen, kn_hfI, kn_hfJ, kn_hfR, kn_hfN, kn_hoI, kn_hoJ, kn_hoR, kn_hoN, kn_hoC, kn_hoP, kn_paI, kn_paJ, kn_paQ, kn_hpF, kuI_ha, kuI_ga, kuI_pa, kuI_hA, kuI_ln, kuB_ha, kuB_ga, kuB_pa, kuB_hA, kuB_ln, kuJ_ha, kuJ_ga, kuJ_pa, kuJ_hA, kuJ_ln, kuQ_ha, kuQ_ga, kuQ_pa, kuQ_hA, kuQ_ln, kuO_fI, kuO_fJ, kuO_fR, kuO_fN, kuO_oI, kuO_oJ, kuO_oR, kuO_oN, kuO_oC, kuO_oP, kuO_pF, kvI_s, kvJ_s, kvR_s, kvN_s, kvN_0, kvN_v, kpI_s, kpJ_s, kpR_s, kpN_s, kpN_0, kpN_v, List.getElem?_cons_zero, List.getElem?_cons_succ, List.set_cons_zero, List.set_cons_succ, List.length_cons, List.length_nil, forall_eq, exists_eq_left', Option.some.injEq, true_and, and_true, reduceIte, Nat.reduceEqDiff, Nat.reduceAdd, Nat.reduceLT, hup_hup, hup_at, eq_self, if_true, if_false, implies_true, true_implies, false_implies, not_true_eq_false, not_false_eq_true, or_true, true_or, i32_10, i32_01, kI_new, kB_new, kJ_new, kI_new2, kB_new2, kJ_new2, kQ_new, kO_new, zkd, zijd, zip1, zip, zim1, i32_natN, ziL, zi_0, zi_1]
      rw [kI_ext (f := g) (g := fun k => if k ≤ L then F k else 0) (fun x hx => by
        rw [hg x hx]
        by_cases c : x < k
        · rw [if_pos c, if_pos (by omega)]
        · rw [if_neg c, if_neg (by omega)])]
      exact q r a hrS ha nra
    | succ n ih =>
      intro k hk g hg
      rw [wX0_last_l22]
      have r1 := rR k (by omega)
      have rb := ze_mulp r1.1 r1.2 (b := zinv p l) (by omega) hi.2.1 hp7.2
      have r2 := rF k (by omega)
      try simp (disch := first | assumption | omega) only [zl32, zl64, i32_add, i32_sub, i32_mul, i32_neg, i64_add, i64_sub, i64_mul, i64_neg, cv_gi, cv_gw, cv_ga, cv_gl, cv_pi, cv_pw, cv_pa, cv_pl, zf_S, zf_i, zf_l, mz1, mz2, mz3, mz4, kn_haI, kn_haJ, kn_haQ, kn_gaI, kn_gaJ, kn_gaQ, kn_hoA, kn_hlen, kn_hfI, kn_hfJ, kn_hfR, kn_hfN, kn_hoI, kn_hoJ, kn_hoR, kn_hoN, kn_hoC, kn_hoP, kn_paI, kn_paJ, kn_paQ, kn_hpF, kuI_ha, kuI_ga, kuI_pa, kuI_hA, kuI_ln, kuB_ha, kuB_ga, kuB_pa, kuB_hA, kuB_ln, kuJ_ha, kuJ_ga, kuJ_pa, kuJ_hA, kuJ_ln, kuQ_ha, kuQ_ga, kuQ_pa, kuQ_hA, kuQ_ln, kuO_fI, kuO_fJ, kuO_fR, kuO_fN, kuO_oI, kuO_oJ, kuO_oR, kuO_oN, kuO_oC, kuO_oP, kuO_pF, kvI_s, kvJ_s, kvR_s, kvN_s, kvN_0, kvN_v, kpI_s, kpJ_s, kpR_s, kpN_s, kpN_0, kpN_v, List.getElem?_cons_zero, List.getElem?_cons_succ, List.set_cons_zero, List.set_cons_succ, List.length_cons, List.length_nil, forall_eq, exists_eq_left', Option.some.injEq, true_and, and_true, reduceIte, Nat.reduceEqDiff, Nat.reduceAdd, Nat.reduceLT, hup_hup, hup_at, eq_self, if_true, if_false, implies_true, true_implies, false_implies, not_true_eq_false, not_false_eq_true, or_true, true_or, i32_10, i32_01, kI_new, kB_new, kJ_new, kI_new2, kB_new2, kJ_new2, kQ_new, kO_new, zkd, zijd, zip1, zip, zim1, i32_natN, ziL, zi_0, zi_1, kO_fI o0, kO_fJ o0, kO_fR o0, kO_fN o0, kO_oI o0, kO_oJ o0, kO_oR o0, kO_oN o0, kO_oC o0, kO_oP o0, kO_pF o0, kI_ha ia, kI_ga ia, kI_pa ia, kI_hA ia, kI_ln ia]
      repeat' (first | (exfalso; omega) | (with_reducible refine zb_in ?_ ?_ ?_ ?_; omega; omega; omega) | (with_reducible refine zb_le ?_ ?_ ?_ ?_ (fun _ => ?_) (fun _ => ?_); omega; omega; omega; omega) | (with_reducible refine zb_lt ?_ ?_ ?_ ?_ (fun _ => ?_) (fun _ => ?_); omega; omega; omega; omega) | (with_reducible refine zb_eq ?_ ?_ ?_ ?_ (fun _ => ?_) (fun _ => ?_); omega; omega; omega; omega) | (with_reducible refine zb_leL ?_ ?_ ?_ ?_ (fun _ => ?_) (fun _ => ?_); omega; omega; omega; omega) | (with_reducible refine zb_ltL ?_ ?_ ?_ ?_ (fun _ => ?_) (fun _ => ?_); omega; omega; omega; omega) | (with_reducible refine zb_eqL ?_ ?_ ?_ ?_ (fun _ => ?_) (fun _ => ?_); omega; omega; omega; omega) | (with_reducible refine zb_nz ?_ ?_ ?_ ?_; omega; omega; omega) | (with_reducible refine zb_nzL ?_ ?_ ?_ ?_; omega; omega; omega) | with_reducible refine zb_ite ?_ | with_reducible refine zb_iteL ?_ | ((with_reducible intro y hy); subst hy; try simp only [zl32, zl64, i32_add, i32_sub, i32_mul, i32_neg, i64_add, i64_sub, i64_mul, i64_neg, cv_gi, cv_gw, cv_ga, cv_gl, cv_pi, cv_pw, cv_pa, cv_pl, zf_S, zf_i, zf_l, mz1, mz2, mz3, mz4, zr_ii, zr_iw, zr_ia, zr_il, zr_wi, zr_ww, zr_wa, zr_wl, zr_ai, zr_aw, zr_aa, zr_al, zr_li, zr_lw, zr_la, zr_ll, zw_ii, zw_ww, zw_aa, zw_ll, reduceIte, Nat.reduceEqDiff, if_true, if_false]) | with_reducible refine zb_o1 ?_ | with_reducible refine zb_o2 ?_ | with_reducible refine zb_o3 ?_ | with_reducible refine zb_o4 ?_ | with_reducible refine zb_tr ?_ | exact trivial | with_reducible refine zb_T ?_ | with_reducible refine zb_sp ?_ ?_)
      rw [i32_div (by omega) (by omega) (by omega) (by omega)]
      try simp (disch := first | assumption | omega) only [zl32, zl64, i32_add, i32_sub, i32_mul, i32_neg, i64_add, i64_sub, i64_mul, i64_neg, cv_gi, cv_gw, cv_ga, cv_gl, cv_pi, cv_pw, cv_pa, cv_pl, zf_S, zf_i, zf_l, mz1, mz2, mz3, mz4, kn_haI, kn_haJ, kn_haQ, kn_gaI, kn_gaJ, kn_gaQ, kn_hoA, kn_hlen, kn_hfI, kn_hfJ, kn_hfR, kn_hfN, kn_hoI, kn_hoJ, kn_hoR, kn_hoN, kn_hoC, kn_hoP, kn_paI, kn_paJ, kn_paQ, kn_hpF, kuI_ha, kuI_ga, kuI_pa, kuI_hA, kuI_ln, kuB_ha, kuB_ga, kuB_pa, kuB_hA, kuB_ln, kuJ_ha, kuJ_ga, kuJ_pa, kuJ_hA, kuJ_ln, kuQ_ha, kuQ_ga, kuQ_pa, kuQ_hA, kuQ_ln, kuO_fI, kuO_fJ, kuO_fR, kuO_fN, kuO_oI, kuO_oJ, kuO_oR, kuO_oN, kuO_oC, kuO_oP, kuO_pF, kvI_s, kvJ_s, kvR_s, kvN_s, kvN_0, kvN_v, kpI_s, kpJ_s, kpR_s, kpN_s, kpN_0, kpN_v, List.getElem?_cons_zero, List.getElem?_cons_succ, List.set_cons_zero, List.set_cons_succ, List.length_cons, List.length_nil, forall_eq, exists_eq_left', Option.some.injEq, true_and, and_true, reduceIte, Nat.reduceEqDiff, Nat.reduceAdd, Nat.reduceLT, hup_hup, hup_at, eq_self, if_true, if_false, implies_true, true_implies, false_implies, not_true_eq_false, not_false_eq_true, or_true, true_or, i32_10, i32_01, kI_new, kB_new, kJ_new, kI_new2, kB_new2, kJ_new2, kQ_new, kO_new, zkd, zijd, zip1, zip, zim1, i32_natN, ziL, zi_0, zi_1, kO_fI o0, kO_fJ o0, kO_fR o0, kO_fN o0, kO_oI o0, kO_oJ o0, kO_oR o0, kO_oN o0, kO_oC o0, kO_oP o0, kO_pF o0, kI_ha ia, kI_ga ia, kI_pa ia, kI_hA ia, kI_ln ia]
      rw [ze_tmod, ze_tmodn rb.1]
      refine ih (k + 1) (by omega) _ (fun x hx => ?_)
      by_cases c : x = k
      · subst c
        rw [zup_at, if_pos (by omega), hR.1 x (by omega)]
        exact ze_inv hi.2.2 r2.1 r2.2
      · rw [zup_ne _ _ c, hg x hx]
        by_cases c2 : x < k
        · rw [if_pos c2, if_pos (by omega)]
        · rw [if_neg c2, if_neg (by omega)]
  exact ⟨L + 2, LL (L + 1) 0 (by omega) _ (fun x hx => by rw [if_neg (by omega)])⟩
theorem zCd_lt {p : Int} {d : Nat} {L : Nat} (h : L < d) (n code : Nat) (F : Nat → Int) (fs : List zF) : zCd p d n code L F fs = (L, F, fs) := by
  cases n with
  | zero => rfl
  | succ n =>
    unfold zCd
    rw [if_pos h]
theorem zDg_0 {p : Int} (n d : Nat) (hd : 1 ≤ d) (F : Nat → Int) (fs : List zF) : zDg p n d 0 F fs = fs := by
  cases n with
  | zero => rfl
  | succ n =>
    unfold zDg
    rw [if_pos (by omega), if_pos rfl]
/-- the factors in a list: K tells where their cells may lie -/
def kFs (K : Nat → Prop) (S : hH) (g : Nat → Nat) (fs : List zF) : Prop := ∀ (i : Nat) (x : zF), fs[i]? = some x → K (g i) ∧ ∃ a, K a ∧ S (g i) = some (kO 5 [.ref a, .int (i32 x.1), .int (i32 x.2.1)]) ∧ S a = some (kI 9 x.2.2)
theorem kFs.fr {K : Nat → Prop} {S S1 : hH} {g : Nat → Nat} {fs : List zF} (h : kFs K S g fs) (hf : ∀ q, K q → (∀ v, S q = some (kI 9 v) → S1 q = some (kI 9 v)) ∧ ∀ v, S q = some (kO 5 v) → S1 q = some (kO 5 v)) : kFs K S1 g fs := fun i x hx => by
  obtain ⟨h1, a, h2, h3, h4⟩ := h i x hx
  exact ⟨h1, a, h2, (hf _ h1).2 _ h3, (hf _ h2).1 _ h4⟩
theorem kFs.mono {K K' : Nat → Prop} {S : hH} {g : Nat → Nat} {fs : List zF} (h : kFs K S g fs) (hk : ∀ q, K q → K' q) : kFs K' S g fs := fun i x hx => by
  obtain ⟨h1, a, h2, h3, h4⟩ := h i x hx
  exact ⟨hk _ h1, a, hk _ h2, h3, h4⟩
def kTs (A : Nat → Nat) (q : Nat) : Prop := q = A 3 ∨ q = A 4 ∨ q = A 5
def kFI (Kc A : Nat → Nat) (S0 : hH) (fa Ls : Nat) (p l : Int) (S : hH) (L : Nat) (F : Nat → Int) (fs : List zF) : Prop :=
  kF (kTs A) S0 S ∧ ((∃ g, S (A 3) = some (kI 9 g)) ∧ (∃ g, S (A 4) = some (kI 9 g)) ∧ ∃ g, S (A 5) = some (kI 9 g)) ∧ (∃ R, S fa = some (kI 9 R) ∧ zRl p l L F R) ∧
  (∃ E cap g, kAL Kc S Ls E fs.length cap g ∧ cap ≤ 10 ∧ (E = Kc 0 ∨ S0 E = none) ∧ kFs (fun q => S0 q = none ∧ q ≠ fa) S g fs) ∧ F L = 1 ∧ zred p 9 F ∧ L < 9 ∧ fs.length + L ≤ 8
/-- a factor is added to the list -/
theorem kFI_add {Kc A : Nat → Nat} {S0 : hH} {fa Ls : Nat} {p l : Int} (hK0 : ∃ f, S0 (Kc 0) = some (kQ 3 0 f)) (n3 : ∀ k, 3 ≤ k → k ≤ 5 → Kc 0 ≠ A k) {S S1 : hH} {E E1 n cap cap1 : Nat} {g : Nat → Nat} {fs : List zF} {r a : Nat} {x : zF} (hn : fs.length = n) (hL : kAL Kc S1 Ls E1 (n + 1) cap1 (kap n r g)) (hE : kAL Kc S Ls E n cap g) (hE1 : E1 = E ∨ S E1 = none) (hE0 : E = Kc 0 ∨ S0 E = none) (hc : cap1 ≤ 10) (hfr : ∀ q y, S q = some y → q ≠ Ls → (q ≠ E ∨ q = Kc 0) → S1 q = some y) (hF : kF (kTs A) S0 S) (hLs : S0 Ls = none)
    (i345 : (∃ g, S (A 3) = some (kI 9 g)) ∧ (∃ g, S (A 4) = some (kI 9 g)) ∧ ∃ g, S (A 5) = some (kI 9 g)) {R : Nat → Int} (ia : S fa = some (kI 9 R)) {L : Nat} {F : Nat → Int} (hR : zRl p l L F R) (hfs : kFs (fun q => S0 q = none ∧ q ≠ fa) S g fs) (hr : S r = some (kO 5 [.ref a, .int (i32 x.1), .int (i32 x.2.1)])) (ha : S a = some (kI 9 x.2.2)) (hr0 : S0 r = none) (ha0 : S0 a = none) (haf : a ≠ fa) (hF1 : F L = 1) (rF : zred p 9 F) (hL9 : L < 9) (hlen : fs.length + 1 + L ≤ 8) : kFI Kc A S0 fa Ls p l S1 L F (fs ++ [x]) := by
  obtain ⟨v, oL⟩ := hE.1
  obtain ⟨fe, qE, _⟩ := hE.2.1
  have kI' : ∀ q v, S q = some (kI 9 v) → S1 q = some (kI 9 v) := fun q v h => hfr q _ h (kne2 h oL (by intro e; cases e)) (Or.inl (kne2 h qE (by intro e; cases e)))
  have kO' : ∀ q v, S q = some (kO 5 v) → S1 q = some (kO 5 v) := fun q v h => hfr q _ h (kne2 h oL (by intro e; cases e)) (Or.inl (kne2 h qE (by intro e; cases e)))
  have rf : r ≠ fa := kne2 hr ia (by intro e; cases e)
  refine ⟨?_, ⟨?_, ?_, ?_⟩, ⟨R, kI' _ _ ia, hR⟩, ⟨E1, cap1, (kap n r g), ?_, hc, ?_, ?_⟩, hF1, rF, hL9, ?_⟩
  · intro q y hq hm
    refine hfr q y (hF q y hq hm) ?_ ?_
    · intro e; rw [e, hLs] at hq; cases hq
    · by_cases c : q = Kc 0
      · exact Or.inr c
      · refine Or.inl (fun e => ?_)
        rcases hE0 with h | h
        · exact c (e.trans h)
        · rw [e, h] at hq; cases hq
  · obtain ⟨⟨g, h⟩, _, _⟩ := i345
    exact ⟨g, kI' _ _ h⟩
  · obtain ⟨_, ⟨g, h⟩, _⟩ := i345
    exact ⟨g, kI' _ _ h⟩
  · obtain ⟨_, _, ⟨g, h⟩⟩ := i345
    exact ⟨g, kI' _ _ h⟩
  · rw [List.length_append, List.length_singleton, hn]
    exact hL
  · rcases hE1 with h | h
    · rw [h]; exact hE0
    · refine Or.inr ?_
      rcases hz : S0 E1 with _ | y
      · rfl
      · by_cases c : kTs A E1
        · exfalso
          obtain ⟨⟨g3, h3⟩, ⟨g4, h4⟩, ⟨g5, h5⟩⟩ := i345
          rcases c with c | c | c
          · rw [c, h3] at h; cases h
          · rw [c, h4] at h; cases h
          · rw [c, h5] at h; cases h
        · rw [hF E1 y hz c] at h
          cases h
  · intro i y hy
    rw [List.getElem?_append] at hy
    by_cases c : i < fs.length
    · rw [if_pos c] at hy
      have := hfs i y hy
      rw [kap_ne _ _ _ (by omega)]
      obtain ⟨h1, b, h2, h3, h4⟩ := this
      exact ⟨h1, b, h2, kO' _ _ h3, kI' _ _ h4⟩
    · rw [if_neg c] at hy
      have hi : i - fs.length = 0 := by
        have := (List.getElem?_eq_some_iff.mp hy).1
        rw [List.length_singleton] at this
        omega
      rw [hi] at hy
      cases hy
      rw [kap_at _ _ _ (by omega)]
      exact ⟨⟨hr0, rf⟩, a, ⟨ha0, haf⟩, kO' _ _ hr, kI' _ _ ha⟩
  · rw [List.length_append, List.length_singleton]
    exact hlen
