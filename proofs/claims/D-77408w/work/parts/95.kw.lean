/-! CLASS 23: sides: common, sideOf, the scan -/
set_option maxRecDepth 100000
theorem kC_common0 : ∀ (d a b : Nat), b < d → a < 2000000 → b < 2000000 → ∀ (Q : Int32 → Prop), Q (i32 (Nat.gcd a b : Nat)) → wX15_common d (i32 a) (i32 b) Q := by
  intro d
  induction d with
  | zero => intro a b h; omega
  | succ d ih =>
    intro a b h ha hb Q q
    rw [wX15_common]
    try simp only [zl32, zl64, i32_add, i32_sub, i32_mul, i32_neg, i64_add, i64_sub, i64_mul, i64_neg, cv_gi, cv_gw, cv_ga, cv_gl, cv_pi, cv_pw, cv_pa, cv_pl, zf_S, zf_i, zf_l, mz1, mz2, mz3, mz4]
    repeat' (first | (exfalso; omega) | (with_reducible refine zb_in ?_ ?_ ?_ ?_; omega; omega; omega) | (with_reducible refine zb_le ?_ ?_ ?_ ?_ (fun _ => ?_) (fun _ => ?_); omega; omega; omega; omega) | (with_reducible refine zb_lt ?_ ?_ ?_ ?_ (fun _ => ?_) (fun _ => ?_); omega; omega; omega; omega) | (with_reducible refine zb_eq ?_ ?_ ?_ ?_ (fun _ => ?_) (fun _ => ?_); omega; omega; omega; omega) | (with_reducible refine zb_leL ?_ ?_ ?_ ?_ (fun _ => ?_) (fun _ => ?_); omega; omega; omega; omega) | (with_reducible refine zb_ltL ?_ ?_ ?_ ?_ (fun _ => ?_) (fun _ => ?_); omega; omega; omega; omega) | (with_reducible refine zb_eqL ?_ ?_ ?_ ?_ (fun _ => ?_) (fun _ => ?_); omega; omega; omega; omega) | (with_reducible refine zb_nz ?_ ?_ ?_ ?_; omega; omega; omega) | (with_reducible refine zb_nzL ?_ ?_ ?_ ?_; omega; omega; omega) | with_reducible refine zb_ite ?_ | with_reducible refine zb_iteL ?_ | ((with_reducible intro y hy); subst hy; try simp only [zl32, zl64, i32_add, i32_sub, i32_mul, i32_neg, i64_add, i64_sub, i64_mul, i64_neg, cv_gi, cv_gw, cv_ga, cv_gl, cv_pi, cv_pw, cv_pa, cv_pl, zf_S, zf_i, zf_l, mz1, mz2, mz3, mz4, zr_ii, zr_iw, zr_ia, zr_il, zr_wi, zr_ww, zr_wa, zr_wl, zr_ai, zr_aw, zr_aa, zr_al, zr_li, zr_lw, zr_la, zr_ll, zw_ii, zw_ww, zw_aa, zw_ll, reduceIte, Nat.reduceEqDiff, if_true, if_false]) | with_reducible refine zb_o1 ?_ | with_reducible refine zb_o2 ?_ | with_reducible refine zb_o3 ?_ | with_reducible refine zb_o4 ?_ | with_reducible refine zb_tr ?_ | exact trivial | with_reducible refine zb_T ?_ | with_reducible refine zb_sp ?_ ?_)
    · have : b = 0 := by omega
      subst this
      rw [Nat.gcd_zero_right] at q
      exact q
    · rw [i32_div (by omega) (by omega) (by omega) (by omega)]
      try simp only [zl32, zl64, i32_add, i32_sub, i32_mul, i32_neg, i64_add, i64_sub, i64_mul, i64_neg, cv_gi, cv_gw, cv_ga, cv_gl, cv_pi, cv_pw, cv_pa, cv_pl, zf_S, zf_i, zf_l, mz1, mz2, mz3, mz4]
      rw [ze_tmod, ze_tmodn (by omega), show (a : Int) % (b : Int) = ((a % b : Nat) : Int) from (Int.natCast_emod _ _).symm]
      have hm := Nat.mod_lt a (show 0 < b by omega)
      refine ih b (a % b) (by omega) hb (by omega) _ ?_
      rw [Nat.gcd_comm, ← Nat.gcd_rec, Nat.gcd_comm]
      exact q
theorem kC_common (a b : Nat) (ha : a ≤ 8) (hb : b < 1000000) (Q : Int32 → Prop) (q : Q (i32 (Nat.gcd a b : Nat))) : wX15_common 16 (i32 a) (i32 b) Q := by
  by_cases c : b < 16
  · exact kC_common0 16 a b c (by omega) (by omega) Q q
  · rw [wX15_common]
    try simp only [zl32, zl64, i32_add, i32_sub, i32_mul, i32_neg, i64_add, i64_sub, i64_mul, i64_neg, cv_gi, cv_gw, cv_ga, cv_gl, cv_pi, cv_pw, cv_pa, cv_pl, zf_S, zf_i, zf_l, mz1, mz2, mz3, mz4]
    repeat' (first | (exfalso; omega) | (with_reducible refine zb_in ?_ ?_ ?_ ?_; omega; omega; omega) | (with_reducible refine zb_le ?_ ?_ ?_ ?_ (fun _ => ?_) (fun _ => ?_); omega; omega; omega; omega) | (with_reducible refine zb_lt ?_ ?_ ?_ ?_ (fun _ => ?_) (fun _ => ?_); omega; omega; omega; omega) | (with_reducible refine zb_eq ?_ ?_ ?_ ?_ (fun _ => ?_) (fun _ => ?_); omega; omega; omega; omega) | (with_reducible refine zb_leL ?_ ?_ ?_ ?_ (fun _ => ?_) (fun _ => ?_); omega; omega; omega; omega) | (with_reducible refine zb_ltL ?_ ?_ ?_ ?_ (fun _ => ?_) (fun _ => ?_); omega; omega; omega; omega) | (with_reducible refine zb_eqL ?_ ?_ ?_ ?_ (fun _ => ?_) (fun _ => ?_); omega; omega; omega; omega) | (with_reducible refine zb_nz ?_ ?_ ?_ ?_; omega; omega; omega) | (with_reducible refine zb_nzL ?_ ?_ ?_ ?_; omega; omega; omega) | with_reducible refine zb_ite ?_ | with_reducible refine zb_iteL ?_ | ((with_reducible intro y hy); subst hy; try simp only [zl32, zl64, i32_add, i32_sub, i32_mul, i32_neg, i64_add, i64_sub, i64_mul, i64_neg, cv_gi, cv_gw, cv_ga, cv_gl, cv_pi, cv_pw, cv_pa, cv_pl, zf_S, zf_i, zf_l, mz1, mz2, mz3, mz4, zr_ii, zr_iw, zr_ia, zr_il, zr_wi, zr_ww, zr_wa, zr_wl, zr_ai, zr_aw, zr_aa, zr_al, zr_li, zr_lw, zr_la, zr_ll, zw_ii, zw_ww, zw_aa, zw_ll, reduceIte, Nat.reduceEqDiff, if_true, if_false]) | with_reducible refine zb_o1 ?_ | with_reducible refine zb_o2 ?_ | with_reducible refine zb_o3 ?_ | with_reducible refine zb_o4 ?_ | with_reducible refine zb_tr ?_ | exact trivial | with_reducible refine zb_T ?_ | with_reducible refine zb_sp ?_ ?_)
    rw [i32_div (by omega) (by omega) (by omega) (by omega)]
    try simp only [zl32, zl64, i32_add, i32_sub, i32_mul, i32_neg, i64_add, i64_sub, i64_mul, i64_neg, cv_gi, cv_gw, cv_ga, cv_gl, cv_pi, cv_pw, cv_pa, cv_pl, zf_S, zf_i, zf_l, mz1, mz2, mz3, mz4]
    rw [ze_tmod, ze_tmodn (by omega), show (a : Int) % (b : Int) = ((a % b : Nat) : Int) from (Int.natCast_emod _ _).symm]
    have hm := Nat.mod_le a b
    refine kC_common0 15 b (a % b) (by omega) (by omega) (by omega) _ ?_
    rw [Nat.gcd_comm, ← Nat.gcd_rec, Nat.gcd_comm]
    exact q
theorem kC_sideInit {S : hH} {x : Nat} (ox : S x = some (kO 15 [.int (i32 0), .int (i32 0), .int (i32 0), .int (i32 0), .int (i32 0), .int (i32 0), .null, .null])) {pts : Nat → Int} {a b : Nat} (hab : a < b) (hb8 : b ≤ 8) (hf : pts b < pts a) (h0 : 0 ≤ pts b) (h1 : pts a ≤ 300000) (Q : hH → Prop) (q : Q (hup S x (kSo a b (pts a - pts b) (zrm pts a b) (zgd pts a b) 0 none none))) : wX15_init S x (i32 a) (i32 b) (i32 (pts a - pts b)) Q := by
  have hg := zgd_ok hab hf
  obtain ⟨n, hn⟩ : ∃ n : Nat, pts a - pts b = n := ⟨(pts a - pts b).toNat, by omega⟩
  have hgd : zgd pts a b = Nat.gcd (b - a) n := by
    unfold zgd
    rw [hn, Int.toNat_natCast]
  have hrm : zrm pts a b = (b - a) / zgd pts a b := rfl
  rw [hn] at q ⊢
  unfold wX15_init
  try simp (disch := first | assumption | omega) only [zl32, zl64, i32_add, i32_sub, i32_mul, i32_neg, i64_add, i64_sub, i64_mul, i64_neg, cv_gi, cv_gw, cv_ga, cv_gl, cv_pi, cv_pw, cv_pa, cv_pl, zf_S, zf_i, zf_l, mz1, mz2, mz3, mz4, kn_haI, kn_haJ, kn_haQ, kn_gaI, kn_gaJ, kn_gaQ, kn_hoA, kn_hlen, kn_hfI, kn_hfJ, kn_hfR, kn_hfN, kn_hoI, kn_hoJ, kn_hoR, kn_hoN, kn_hoC, kn_hoP, kn_paI, kn_paJ, kn_paQ, kn_hpF, kuI_ha, kuI_ga, kuI_pa, kuI_hA, kuI_ln, kuB_ha, kuB_ga, kuB_pa, kuB_hA, kuB_ln, kuJ_ha, kuJ_ga, kuJ_pa, kuJ_hA, kuJ_ln, kuQ_ha, kuQ_ga, kuQ_pa, kuQ_hA, kuQ_ln, kuO_fI, kuO_fJ, kuO_fR, kuO_fN, kuO_oI, kuO_oJ, kuO_oR, kuO_oN, kuO_oC, kuO_oP, kuO_pF, kvI_s, kvJ_s, kvR_s, kvN_s, kvN_0, kvN_v, kpI_s, kpJ_s, kpR_s, kpN_s, kpN_0, kpN_v, List.getElem?_cons_zero, List.getElem?_cons_succ, List.set_cons_zero, List.set_cons_succ, List.length_cons, List.length_nil, forall_eq, exists_eq_left', Option.some.injEq, true_and, and_true, reduceIte, Nat.reduceEqDiff, Nat.reduceAdd, Nat.reduceLT, hup_hup, hup_at, eq_self, if_true, if_false, implies_true, true_implies, false_implies, not_true_eq_false, not_false_eq_true, or_true, true_or, i32_10, i32_01, kI_new, kB_new, kJ_new, kI_new2, kB_new2, kJ_new2, kQ_new, kO_new, zkd, zijd, zip1, zip, zim1, i32_natN, ziL, zi_0, zi_1, kO_fI ox, kO_fJ ox, kO_fR ox, kO_fN ox, kO_oI ox, kO_oJ ox, kO_oR ox, kO_oN ox, kO_oC ox, kO_oP ox, kO_pF ox]
  rw [show (b : Int) - (a : Int) = ((b - a : Nat) : Int) from by omega]
  refine kC_common (b - a) n (by omega) (by omega) _ ?_
  rw [← hgd]
  have c1 : ¬ i32 (zgd pts a b : Int) = i32 0 := fun e => by rw [i32_eq (by omega) (by omega) (by omega) (by omega)] at e; omega
  try simp (disch := first | assumption | omega) only [zl32, zl64, i32_add, i32_sub, i32_mul, i32_neg, i64_add, i64_sub, i64_mul, i64_neg, cv_gi, cv_gw, cv_ga, cv_gl, cv_pi, cv_pw, cv_pa, cv_pl, zf_S, zf_i, zf_l, mz1, mz2, mz3, mz4, kn_haI, kn_haJ, kn_haQ, kn_gaI, kn_gaJ, kn_gaQ, kn_hoA, kn_hlen, kn_hfI, kn_hfJ, kn_hfR, kn_hfN, kn_hoI, kn_hoJ, kn_hoR, kn_hoN, kn_hoC, kn_hoP, kn_paI, kn_paJ, kn_paQ, kn_hpF, kuI_ha, kuI_ga, kuI_pa, kuI_hA, kuI_ln, kuB_ha, kuB_ga, kuB_pa, kuB_hA, kuB_ln, kuJ_ha, kuJ_ga, kuJ_pa, kuJ_hA, kuJ_ln, kuQ_ha, kuQ_ga, kuQ_pa, kuQ_hA, kuQ_ln, kuO_fI, kuO_fJ, kuO_fR, kuO_fN, kuO_oI, kuO_oJ, kuO_oR, kuO_oN, kuO_oC, kuO_oP, kuO_pF, kvI_s, kvJ_s, kvR_s, kvN_s, kvN_0, kvN_v, kpI_s, kpJ_s, kpR_s, kpN_s, kpN_0, kpN_v, List.getElem?_cons_zero, List.getElem?_cons_succ, List.set_cons_zero, List.set_cons_succ, List.length_cons, List.length_nil, forall_eq, exists_eq_left', Option.some.injEq, true_and, and_true, reduceIte, Nat.reduceEqDiff, Nat.reduceAdd, Nat.reduceLT, hup_hup, hup_at, eq_self, if_true, if_false, implies_true, true_implies, false_implies, not_true_eq_false, not_false_eq_true, or_true, true_or, i32_10, i32_01, kI_new, kB_new, kJ_new, kI_new2, kB_new2, kJ_new2, kQ_new, kO_new, zkd, zijd, zip1, zip, zim1, i32_natN, ziL, zi_0, zi_1, kO_fI ox, kO_fJ ox, kO_fR ox, kO_fN ox, kO_oI ox, kO_oJ ox, kO_oR ox, kO_oN ox, kO_oC ox, kO_oP ox, kO_pF ox, c1]
  rw [i32_div (by omega) (by omega) (by omega) (by omega), ze_tdivn (by omega)]
  rw [hrm, show (((b - a) / zgd pts a b : Nat) : Int) = ((b - a : Nat) : Int) / (zgd pts a b : Int) from Int.natCast_ediv _ _] at q
  exact q
theorem kC_sideOf {S : hH} {M p : Int} {m : Nat → Prop} {w sd : Nat → Nat} {pa : zP} (hW : kWy m S w sd pa) (hv : zPv M pa) (hw : zPw p pa) {T : Nat} {fa L1 L2 P x0 : Nat} {dg hv0 : Int} {hd : Option Nat} (oT : S T = some (kTo fa dg L1 L2 P hd hv0 x0)) {ab bb : Option Nat} {root lv mf nu fi ix : Int} {ka pt sl : Nat} (oo : S (w (zpL pa)) = some (kKo ab bb root lv mf nu ka (zpD pa (zpL pa)) (zlift pa) pt sl fi ix)) {pts : Nat → Int} (ip : S pt = some (kI 9 pts)) {a b : Nat} (hab : a < b) (hb8 : b ≤ 8) (hf : pts b < pts a) (h0 : 0 ≤ pts b) (h1 : pts a ≤ 300000) (hlift : 0 ≤ zlift pa ∧ zlift pa ≤ 10000) (hsl : 0 ≤ zsl pa pts a b ∧ zsl pa pts a b ≤ 400000) (mc ms : Nat) (hmc : 3 ≤ mc) (hms : 17 ≤ ms) (Q : Nat → hH → Prop)
    (q : ∀ S1 x mo t, S x = none → S mo = none → S t = none → kF kN S S1 → S1 x = some (kSo a b (pts a - pts b) (zrm pts a b) (zgd pts a b) (zsl pa pts a b) (some mo) none) → S1 mo = some (kMo t 1) → S1 t = some (kI 7 (zvm pa (zsl pa pts a b))) → Q x S1) : wX6_sideOf mc ms S T (w (zpL pa)) (i32 a) (i32 b) Q := by
  have hg := zgd_ok hab hf
  unfold wX6_sideOf
  refine ⟨by omega, by omega, ?_⟩
  intro x hx
  have nLx : w (zpL pa) ≠ x := kne oo hx
  have nTx : T ≠ x := kne oT hx
  have npx : pt ≠ x := kne ip hx
  try simp (disch := first | assumption | omega) only [zl32, zl64, i32_add, i32_sub, i32_mul, i32_neg, i64_add, i64_sub, i64_mul, i64_neg, cv_gi, cv_gw, cv_ga, cv_gl, cv_pi, cv_pw, cv_pa, cv_pl, zf_S, zf_i, zf_l, mz1, mz2, mz3, mz4, kn_haI, kn_haJ, kn_haQ, kn_gaI, kn_gaJ, kn_gaQ, kn_hoA, kn_hlen, kn_hfI, kn_hfJ, kn_hfR, kn_hfN, kn_hoI, kn_hoJ, kn_hoR, kn_hoN, kn_hoC, kn_hoP, kn_paI, kn_paJ, kn_paQ, kn_hpF, kuI_ha, kuI_ga, kuI_pa, kuI_hA, kuI_ln, kuB_ha, kuB_ga, kuB_pa, kuB_hA, kuB_ln, kuJ_ha, kuJ_ga, kuJ_pa, kuJ_hA, kuJ_ln, kuQ_ha, kuQ_ga, kuQ_pa, kuQ_hA, kuQ_ln, kuO_fI, kuO_fJ, kuO_fR, kuO_fN, kuO_oI, kuO_oJ, kuO_oR, kuO_oN, kuO_oC, kuO_oP, kuO_pF, kvI_s, kvJ_s, kvR_s, kvN_s, kvN_0, kvN_v, kpI_s, kpJ_s, kpR_s, kpN_s, kpN_0, kpN_v, List.getElem?_cons_zero, List.getElem?_cons_succ, List.set_cons_zero, List.set_cons_succ, List.length_cons, List.length_nil, forall_eq, exists_eq_left', Option.some.injEq, true_and, and_true, reduceIte, Nat.reduceEqDiff, Nat.reduceAdd, Nat.reduceLT, hup_hup, hup_at, eq_self, if_true, if_false, implies_true, true_implies, false_implies, not_true_eq_false, not_false_eq_true, or_true, true_or, i32_10, i32_01, kI_new, kB_new, kJ_new, kI_new2, kB_new2, kJ_new2, kQ_new, kO_new, zkd, zijd, zip1, zip, zim1, i32_natN, ziL, zi_0, zi_1, kO_fI oo, kO_fJ oo, kO_fR oo, kO_fN oo, kO_oI oo, kO_oJ oo, kO_oR oo, kO_oN oo, kO_oC oo, kO_oP oo, kO_pF oo, kI_ha ip, kI_ga ip, kI_pa ip, kI_hA ip, kI_ln ip]
  repeat' (first | (exfalso; omega) | (with_reducible refine zb_in ?_ ?_ ?_ ?_; omega; omega; omega) | (with_reducible refine zb_le ?_ ?_ ?_ ?_ (fun _ => ?_) (fun _ => ?_); omega; omega; omega; omega) | (with_reducible refine zb_lt ?_ ?_ ?_ ?_ (fun _ => ?_) (fun _ => ?_); omega; omega; omega; omega) | (with_reducible refine zb_eq ?_ ?_ ?_ ?_ (fun _ => ?_) (fun _ => ?_); omega; omega; omega; omega) | (with_reducible refine zb_leL ?_ ?_ ?_ ?_ (fun _ => ?_) (fun _ => ?_); omega; omega; omega; omega) | (with_reducible refine zb_ltL ?_ ?_ ?_ ?_ (fun _ => ?_) (fun _ => ?_); omega; omega; omega; omega) | (with_reducible refine zb_eqL ?_ ?_ ?_ ?_ (fun _ => ?_) (fun _ => ?_); omega; omega; omega; omega) | (with_reducible refine zb_nz ?_ ?_ ?_ ?_; omega; omega; omega) | (with_reducible refine zb_nzL ?_ ?_ ?_ ?_; omega; omega; omega) | with_reducible refine zb_ite ?_ | with_reducible refine zb_iteL ?_ | ((with_reducible intro y hy); subst hy; try simp only [zl32, zl64, i32_add, i32_sub, i32_mul, i32_neg, i64_add, i64_sub, i64_mul, i64_neg, cv_gi, cv_gw, cv_ga, cv_gl, cv_pi, cv_pw, cv_pa, cv_pl, zf_S, zf_i, zf_l, mz1, mz2, mz3, mz4, zr_ii, zr_iw, zr_ia, zr_il, zr_wi, zr_ww, zr_wa, zr_wl, zr_ai, zr_aw, zr_aa, zr_al, zr_li, zr_lw, zr_la, zr_ll, zw_ii, zw_ww, zw_aa, zw_ll, reduceIte, Nat.reduceEqDiff, if_true, if_false]) | with_reducible refine zb_o1 ?_ | with_reducible refine zb_o2 ?_ | with_reducible refine zb_o3 ?_ | with_reducible refine zb_o4 ?_ | with_reducible refine zb_tr ?_ | exact trivial | with_reducible refine zb_T ?_ | with_reducible refine zb_sp ?_ ?_)
  refine kC_sideInit (hup_at _ _ _) hab hb8 hf h0 h1 _ ?_
  rw [hup_hup]
  have c1 : ¬ i32 (zgd pts a b : Int) = i32 0 := fun e => by rw [i32_eq (by omega) (by omega) (by omega) (by omega)] at e; omega
  try simp (disch := first | assumption | omega) only [zl32, zl64, i32_add, i32_sub, i32_mul, i32_neg, i64_add, i64_sub, i64_mul, i64_neg, cv_gi, cv_gw, cv_ga, cv_gl, cv_pi, cv_pw, cv_pa, cv_pl, zf_S, zf_i, zf_l, mz1, mz2, mz3, mz4, kn_haI, kn_haJ, kn_haQ, kn_gaI, kn_gaJ, kn_gaQ, kn_hoA, kn_hlen, kn_hfI, kn_hfJ, kn_hfR, kn_hfN, kn_hoI, kn_hoJ, kn_hoR, kn_hoN, kn_hoC, kn_hoP, kn_paI, kn_paJ, kn_paQ, kn_hpF, kuI_ha, kuI_ga, kuI_pa, kuI_hA, kuI_ln, kuB_ha, kuB_ga, kuB_pa, kuB_hA, kuB_ln, kuJ_ha, kuJ_ga, kuJ_pa, kuJ_hA, kuJ_ln, kuQ_ha, kuQ_ga, kuQ_pa, kuQ_hA, kuQ_ln, kuO_fI, kuO_fJ, kuO_fR, kuO_fN, kuO_oI, kuO_oJ, kuO_oR, kuO_oN, kuO_oC, kuO_oP, kuO_pF, kvI_s, kvJ_s, kvR_s, kvN_s, kvN_0, kvN_v, kpI_s, kpJ_s, kpR_s, kpN_s, kpN_0, kpN_v, List.getElem?_cons_zero, List.getElem?_cons_succ, List.set_cons_zero, List.set_cons_succ, List.length_cons, List.length_nil, forall_eq, exists_eq_left', Option.some.injEq, true_and, and_true, reduceIte, Nat.reduceEqDiff, Nat.reduceAdd, Nat.reduceLT, hup_hup, hup_at, eq_self, if_true, if_false, implies_true, true_implies, false_implies, not_true_eq_false, not_false_eq_true, or_true, true_or, i32_10, i32_01, kI_new, kB_new, kJ_new, kI_new2, kB_new2, kJ_new2, kQ_new, kO_new, zkd, zijd, zip1, zip, zim1, i32_natN, ziL, zi_0, zi_1, kO_fI oo, kO_fJ oo, kO_fR oo, kO_fN oo, kO_oI oo, kO_oJ oo, kO_oR oo, kO_oN oo, kO_oC oo, kO_oP oo, kO_pF oo, kO_fI oT, kO_fJ oT, kO_fR oT, kO_fN oT, kO_oI oT, kO_oJ oT, kO_oR oT, kO_oN oT, kO_oC oT, kO_oP oT, kO_pF oT, c1]
  rw [i32_div (by omega) (by omega) (by omega) (by omega), ze_tdivn (by omega)]
  try simp only [zl32, zl64, i32_add, i32_sub, i32_mul, i32_neg, i64_add, i64_sub, i64_mul, i64_neg, cv_gi, cv_gw, cv_ga, cv_gl, cv_pi, cv_pw, cv_pa, cv_pl, zf_S, zf_i, zf_l, mz1, mz2, mz3, mz4]
  have hval : zlift pa * (zrm pts a b : Int) + (pts a - pts b) / (zgd pts a b : Int) = zsl pa pts a b := by
    unfold zsl
    rw [Int.mul_comm]
  rw [hval]
  refine ⟨2, 9, by omega, by omega, ?_⟩
  generalize hS1 : hup S x (kO 15 [.int (i32 (a : Int)), .int (i32 (b : Int)), .int (i32 (pts a - pts b)), .int (i32 (zrm pts a b : Int)), .int (i32 (zgd pts a b : Int)), .int (i32 (zsl pa pts a b)), va_rf none, va_rf none]) = S1
  have hF1 : kF kN S S1 := by rw [← hS1]; exact kF.new hx
  have ox1 : S1 x = some (kSo a b (pts a - pts b) (zrm pts a b) (zgd pts a b) (zsl pa pts a b) none none) := by rw [← hS1, hup_at]
  have hW1 : kWy m S1 w sd pa := hW.G (fun q y hq => ⟨hF1 q y hq.1 (fun h => h), hq.2⟩)
  refine kC_ofValue hW1 hv hw (T := T) (zsl pa pts a b) (by omega) (by omega) 2 9 (by omega) (by omega) _ (fun mo t hmo ht hmt => ?_)
  · have nxm : x ≠ mo := kne ox1 hmo
    have nxt : x ≠ t := kne ox1 ht
    try simp (disch := first | assumption | omega) only [zl32, zl64, i32_add, i32_sub, i32_mul, i32_neg, i64_add, i64_sub, i64_mul, i64_neg, cv_gi, cv_gw, cv_ga, cv_gl, cv_pi, cv_pw, cv_pa, cv_pl, zf_S, zf_i, zf_l, mz1, mz2, mz3, mz4, kn_haI, kn_haJ, kn_haQ, kn_gaI, kn_gaJ, kn_gaQ, kn_hoA, kn_hlen, kn_hfI, kn_hfJ, kn_hfR, kn_hfN, kn_hoI, kn_hoJ, kn_hoR, kn_hoN, kn_hoC, kn_hoP, kn_paI, kn_paJ, kn_paQ, kn_hpF, kuI_ha, kuI_ga, kuI_pa, kuI_hA, kuI_ln, kuB_ha, kuB_ga, kuB_pa, kuB_hA, kuB_ln, kuJ_ha, kuJ_ga, kuJ_pa, kuJ_hA, kuJ_ln, kuQ_ha, kuQ_ga, kuQ_pa, kuQ_hA, kuQ_ln, kuO_fI, kuO_fJ, kuO_fR, kuO_fN, kuO_oI, kuO_oJ, kuO_oR, kuO_oN, kuO_oC, kuO_oP, kuO_pF, kvI_s, kvJ_s, kvR_s, kvN_s, kvN_0, kvN_v, kpI_s, kpJ_s, kpR_s, kpN_s, kpN_0, kpN_v, List.getElem?_cons_zero, List.getElem?_cons_succ, List.set_cons_zero, List.set_cons_succ, List.length_cons, List.length_nil, forall_eq, exists_eq_left', Option.some.injEq, true_and, and_true, reduceIte, Nat.reduceEqDiff, Nat.reduceAdd, Nat.reduceLT, hup_hup, hup_at, eq_self, if_true, if_false, implies_true, true_implies, false_implies, not_true_eq_false, not_false_eq_true, or_true, true_or, i32_10, i32_01, kI_new, kB_new, kJ_new, kI_new2, kB_new2, kJ_new2, kQ_new, kO_new, zkd, zijd, zip1, zip, zim1, i32_natN, ziL, zi_0, zi_1, kO_fI ox1, kO_fJ ox1, kO_fR ox1, kO_fN ox1, kO_oI ox1, kO_oJ ox1, kO_oR ox1, kO_oN ox1, kO_oC ox1, kO_oP ox1, kO_pF ox1, kvr_s]
    have hn : ∀ z, S1 z = none → S z = none := by
      intro z hz
      rcases hzz : S z with _ | y
      · rfl
      · rw [hF1 z y hzz (fun h => h)] at hz; cases hz
    refine q _ x mo t hx (hn mo hmo) (hn t ht) ?_ ?_ ?_ ?_
    · intro z y hz _
      have e1 := kne hz hx
      have e2 := kne hz (hn mo hmo)
      have e3 := kne hz (hn t ht)
      have e4 := hF1 z y hz (fun h => h)
      simp (disch := assumption) only [hup_at, hup_ne]
      exact e4
    · (simp (disch := assumption) only [hup_at, hup_ne]) <;> rfl
    · have : mo ≠ x := fun e => nxm e.symm
      (simp (disch := assumption) only [hup_at, hup_ne]) <;> rfl
    · have e1 : t ≠ x := fun e => nxt e.symm
      have e2 : t ≠ mo := fun e => hmt e.symm
      (simp (disch := assumption) only [hup_at, hup_ne]) <;> rfl
/-- the class's scan for the next corner -/
def ksc (pts : Nat → Int) (a : Nat) : Nat → Int
  | 0 => -1
  | c + 1 => if (0 ≤ pts (a + 1 + c) ∧ pts (a + 1 + c) < pts a) ∧ (ksc pts a c < 0 ∨ (pts (a + 1 + c) - pts a) * (ksc pts a c - a) ≤ (pts (ksc pts a c).toNat - pts a) * (((a + 1 + c : Nat) : Int) - a)) then ((a + 1 + c : Nat) : Int) else ksc pts a c
theorem ksc_ok (pts : Nat → Int) (a : Nat) : ∀ c : Nat, (ksc pts a c = -1 ∧ ∀ j, a < j → j ≤ a + c → ¬ (0 ≤ pts j ∧ pts j < pts a)) ∨ ∃ b : Nat, ksc pts a c = (b : Int) ∧ a < b ∧ b ≤ a + c ∧ (0 ≤ pts b ∧ pts b < pts a) ∧ ∀ j, a < j → j ≤ a + c → (0 ≤ pts j ∧ pts j < pts a) → (pts b - pts a) * ((j : Int) - a) ≤ (pts j - pts a) * ((b : Int) - a) ∧ (b < j → (pts b - pts a) * ((j : Int) - a) < (pts j - pts a) * ((b : Int) - a)) := by
  intro c
  induction c with
  | zero => exact Or.inl ⟨rfl, fun j h1 h2 => by omega⟩
  | succ c ih =>
    unfold ksc
    by_cases c1 : 0 ≤ pts (a + 1 + c) ∧ pts (a + 1 + c) < pts a
    · rcases ih with ⟨e, q⟩ | ⟨b, e, q1, q2, q3, q4⟩
      · rw [if_pos ⟨c1, Or.inl (by omega)⟩]
        refine Or.inr ⟨a + 1 + c, rfl, by omega, by omega, c1, fun j h1 h2 h3 => ?_⟩
        by_cases hj : j = a + 1 + c
        · rw [hj]
          exact ⟨Int.le_refl _, fun h => by omega⟩
        · exact absurd h3 (q j h1 (by omega))
      · rw [e, Int.toNat_natCast]
        by_cases c2 : (b : Int) < 0 ∨ (pts (a + 1 + c) - pts a) * ((b : Int) - a) ≤ (pts b - pts a) * (((a + 1 + c : Nat) : Int) - a)
        · rw [if_pos ⟨c1, c2⟩]
          have c3 : (pts (a + 1 + c) - pts a) * ((b : Int) - a) ≤ (pts b - pts a) * (((a + 1 + c : Nat) : Int) - a) := by
            rcases c2 with h | h
            · omega
            · exact h
          refine Or.inr ⟨a + 1 + c, rfl, by omega, by omega, c1, fun j h1 h2 h3 => ⟨?_, fun h => by omega⟩⟩
          by_cases hj : j = a + 1 + c
          · rw [hj]
            exact Int.le_refl _
          · exact ze_trn (by omega) (by omega) (by omega) c3 (q4 j h1 (by omega) h3).1
        · rw [if_neg (fun h => c2 h.2)]
          have c3 : (pts b - pts a) * (((a + 1 + c : Nat) : Int) - a) < (pts (a + 1 + c) - pts a) * ((b : Int) - a) := by
            rcases Int.lt_or_le ((pts b - pts a) * (((a + 1 + c : Nat) : Int) - a)) ((pts (a + 1 + c) - pts a) * ((b : Int) - a)) with h | h
            · exact h
            · exact absurd (Or.inr h) c2
          refine Or.inr ⟨b, rfl, q1, by omega, q3, fun j h1 h2 h3 => ?_⟩
          by_cases hj : j = a + 1 + c
          · rw [hj]
            exact ⟨Int.le_of_lt c3, fun _ => c3⟩
          · exact q4 j h1 (by omega) h3
    · rw [if_neg (fun h => c1 h.1)]
      rcases ih with ⟨e, q⟩ | ⟨b, e, q1, q2, q3, q4⟩
      · refine Or.inl ⟨e, fun j h1 h2 => ?_⟩
        by_cases hj : j = a + 1 + c
        · rw [hj]; exact c1
        · exact q j h1 (by omega)
      · refine Or.inr ⟨b, e, q1, by omega, q3, fun j h1 h2 h3 => ?_⟩
        by_cases hj : j = a + 1 + c
        · rw [hj] at h3
          exact absurd h3 c1
        · exact q4 j h1 (by omega) h3
theorem ksc_eq {pts : Nat → Int} {z m a : Nat} (hz : 0 ≤ pts z) (hzm : z ≤ m) (hza : z ≤ a) (ha : 0 ≤ pts a) (hal : a ≤ zlow pts z m) : (a < zlow pts z m → ksc pts a (m - a) = znc pts a (zlow pts z m - a)) ∧ (¬ a < zlow pts z m → ksc pts a (m - a) = -1) := by
  obtain ⟨i1, i2, i3, i4⟩ := zlst_ok pts z hz (m + 1 - z)
  rw [show zlst pts z (m + 1 - z) = zlow pts z m from rfl] at i1 i2 i3 i4
  generalize zlow pts z m = l at *
  refine ⟨fun hl => ?_, fun hl => ?_⟩
  · have hla := (i4 a hza (by omega) ha).2 hl
    obtain ⟨b2, e2, p1, p2, p3, p4⟩ := znc_fall hl i3 hla
    rcases znc_ok pts a (l - a) with ⟨_, q⟩ | ⟨b, e, q1, q2, q3, q4⟩
    · have := q l hl (by omega)
      omega
    · have hb : b = b2 := by omega
      subst hb
      rcases ksc_ok pts a (m - a) with ⟨_, q⟩ | ⟨b1, e1, r1, r2, r3, r4⟩
      · exact absurd ⟨p3, p4⟩ (q b q1 (by omega))
      · have k1 := r4 b q1 (by omega) ⟨p3, p4⟩
        rw [e, e1]
        by_cases c : b1 ≤ l
        · have k2 := q4 b1 r1 (by omega) r3.1
          by_cases c1 : b1 < b
          · have := k1.2 c1
            omega
          · by_cases c2 : b < b1
            · have := k2.2 c2
              omega
            · omega
        · exfalso
          have hb1 := (i4 b1 (by omega) (by omega) r3.1).1
          have kl := (q4 l hl (by omega) i3).1
          have s1 : (pts l - pts a) * ((b1 : Int) - a) < (pts b1 - pts a) * ((l : Int) - a) := by
            have t1 : (pts l - pts a) * ((l : Int) - a) ≤ (pts b1 - pts a) * ((l : Int) - a) := Int.mul_le_mul_of_nonneg_right (by omega) (by omega)
            have t2 : (pts l - pts a) * ((b1 : Int) - a) < (pts l - pts a) * ((l : Int) - a) := Int.mul_lt_mul_of_neg_left (by omega) (by omega)
            omega
          have s2 := ze_trs (by omega) (by omega) (by omega) kl s1
          omega
  · rcases ksc_ok pts a (m - a) with ⟨e, _⟩ | ⟨b1, e1, r1, r2, r3, r4⟩
    · exact e
    · have := (i4 b1 (by omega) (by omega) r3.1).1
      have : a = l := by omega
      subst this
      omega
