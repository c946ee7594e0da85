/-! CLASS 21: carries, ofValue -/
set_option maxRecDepth 100000
/-- a monomial under way: its powers at t, its cell at x -/
noncomputable abbrev kSt (S : hH) (x t : Nat) (μ : Nat → Int) (r : Int) : hH := hup (hup S t (kI 7 μ)) x (kMo t r)
theorem kSt_t {S : hH} {x t : Nat} {μ : Nat → Int} {r : Int} (h : t ≠ x) : kSt S x t μ r t = some (kI 7 μ) := by
  unfold kSt
  rw [hup_ne h, hup_at]
theorem kSt_x {S : hH} {x t : Nat} {μ : Nat → Int} {r : Int} : kSt S x t μ r x = some (kMo t r) := hup_at _ _ _
theorem kSt_o {S : hH} {x t q : Nat} {μ : Nat → Int} {r : Int} (h1 : q ≠ x) (h2 : q ≠ t) : kSt S x t μ r q = S q := by
  unfold kSt
  rw [hup_ne h1, hup_ne h2]
theorem kSt_G {S : hH} {x t : Nat} {μ : Nat → Int} {r : Int} {m : Nat → Prop} (hx : m x) (ht : m t) : kG m m S (kSt S x t μ r) := fun q y hq =>
  ⟨(kSt_o (fun e => hq.2 (by rw [e]; exact hx)) (fun e => hq.2 (by rw [e]; exact ht))).trans hq.1, hq.2⟩
theorem kSt_st {S : hH} {x t : Nat} {μ μ' : Nat → Int} {r r' : Int} (h : t ≠ x) : kSt (kSt S x t μ r) x t μ' r' = kSt S x t μ' r' := by
  unfold kSt
  rw [hup_cm h, hup_hup, hup_hup]
theorem kSt_t' {S : hH} {x t : Nat} {μ μ' : Nat → Int} {r : Int} (h : t ≠ x) : hup (kSt S x t μ r) t (kI 7 μ') = kSt S x t μ' r := by
  unfold kSt
  rw [hup_cm h, hup_hup]
theorem kC_carries {S : hH} {A : Nat → Nat} {p M : Int} {tr : Option Nat} (o0 : S (A 0) = some (kOb A p M tr)) (hp2 : 2 ≤ p) (hp7 : p ≤ 7) {m : Nat → Prop} {w sd : Nat → Nat} {pa : zP} (hW : kWy m S w sd pa) (hv : zPv M pa) (hw : zPw p pa) {T fa L1 L2 P : Nat} {dg hv0 : Int} {hd : Option Nat} (oT : S T = some (kTo fa dg L1 L2 P hd hv0 (A 0))) {x t : Nat} (hx : m x) (ht : m t) (hxt : t ≠ x) (h0x : A 0 ≠ x) (h0t : A 0 ≠ t) (hTx : T ≠ x) (hTt : T ≠ t) (μ : Nat → Int) (r : Int) (hr0 : 0 ≤ r) (hr1 : r < p) (hμ : ∀ q, 1 ≤ q → q < 7 → 0 ≤ μ q ∧ μ q ≤ 1000) (Q : hH → Prop) (q : Q (kSt S x t (ztd pa p μ r).1 (ztd pa p μ r).2)) : wX6_carries (kSt S x t μ r) T (w (zpL pa)) x Q := by
  have hL6 := hv.2.1
  have hL1 := hv.1
  have c2 : ¬ i32 p = i32 0 := fun e => by rw [i32_eq (by omega) (by omega) (by omega) (by omega)] at e; omega
  have L18 : ∀ (k : Nat), 1 ≤ k → k < zpL pa → ∀ (B : Int), B ≤ 1000000000 → ∀ (rec7 : hH → Int32 → Prop) (n : Nat) (μ : Nat → Int) (r : Int), 0 ≤ r → r < p → (∀ q, 1 ≤ q → q < 7 → 0 ≤ μ q ∧ μ q + 3 * n ≤ B) → μ k ≤ n →
      (0 ≤ (zt1 pa p k n μ r).2 → (zt1 pa p k n μ r).2 < p → (∀ q, 1 ≤ q → q < 7 → 0 ≤ (zt1 pa p k n μ r).1 q ∧ (zt1 pa p k n μ r).1 q ≤ B) → rec7 (kSt S x t (zt1 pa p k n μ r).1 (zt1 pa p k n μ r).2) (i32 ((k : Int) + -1))) →
      wX6_carries_l18 rec7 Q T (w (zpL pa)) x (i32 k) (sd k) (n + 1) (kSt S x t μ r) := by
    intro k hk1 hk2 B hB rec7 n
    have hR := hv.R hk1 hk2
    have hWk := hw k hk1 hk2
    induction n with
    | zero =>
      intro μ r hr0 hr1 hμ hμk h
      have hWS := hW.G (kSt_G (μ := μ) (r := r) hx ht)
      obtain ⟨b1, e1, f1, dg1, mo1, rs1, t1, r1, os, om, ot⟩ := hWS.2 k hk1 hk2
      have os1 := os.1
      have ox : kSt S x t μ r x = some (kMo t r) := kSt_x
      have it : kSt S x t μ r t = some (kI 7 μ) := kSt_t hxt
      have hk0 := hμ k hk1 (by omega)
      rw [wX6_carries_l18]
      try simp (disch := first | assumption | omega) only [zl32, zl64, i32_add, i32_sub, i32_mul, i32_neg, i64_add, i64_sub, i64_mul, i64_neg, cv_gi, cv_gw, cv_ga, cv_gl, cv_pi, cv_pw, cv_pa, cv_pl, zf_S, zf_i, zf_l, mz1, mz2, mz3, mz4, kn_haI, kn_haJ, kn_haQ, kn_gaI, kn_gaJ, kn_gaQ, kn_hoA, kn_hlen, kn_hfI, kn_hfJ, kn_hfR, kn_hfN, kn_hoI, kn_hoJ, kn_hoR, kn_hoN, kn_hoC, kn_hoP, kn_paI, kn_paJ, kn_paQ, kn_hpF, kuI_ha, kuI_ga, kuI_pa, kuI_hA, kuI_ln, kuB_ha, kuB_ga, kuB_pa, kuB_hA, kuB_ln, kuJ_ha, kuJ_ga, kuJ_pa, kuJ_hA, kuJ_ln, kuQ_ha, kuQ_ga, kuQ_pa, kuQ_hA, kuQ_ln, kuO_fI, kuO_fJ, kuO_fR, kuO_fN, kuO_oI, kuO_oJ, kuO_oR, kuO_oN, kuO_oC, kuO_oP, kuO_pF, kvI_s, kvJ_s, kvR_s, kvN_s, kvN_0, kvN_v, kpI_s, kpJ_s, kpR_s, kpN_s, kpN_0, kpN_v, List.getElem?_cons_zero, List.getElem?_cons_succ, List.set_cons_zero, List.set_cons_succ, List.length_cons, List.length_nil, forall_eq, exists_eq_left', Option.some.injEq, true_and, and_true, reduceIte, Nat.reduceEqDiff, Nat.reduceAdd, Nat.reduceLT, hup_hup, hup_at, eq_self, if_true, if_false, implies_true, true_implies, false_implies, not_true_eq_false, not_false_eq_true, or_true, true_or, i32_10, i32_01, kI_new, kB_new, kJ_new, kI_new2, kB_new2, kJ_new2, kQ_new, kO_new, zkd, zijd, zip1, zip, zim1, i32_natN, ziL, zi_0, zi_1, kO_fI ox, kO_fJ ox, kO_fR ox, kO_fN ox, kO_oI ox, kO_oJ ox, kO_oR ox, kO_oN ox, kO_oC ox, kO_oP ox, kO_pF ox, kI_ha it, kI_ga it, kI_pa it, kI_hA it, kI_ln it, kO_fI os1, kO_fJ os1, kO_fR os1, kO_fN os1, kO_oI os1, kO_oJ os1, kO_oR os1, kO_oN os1, kO_oC os1, kO_oP os1, kO_pF os1]
      repeat' (first | (exfalso; omega) | (with_reducible refine zb_in ?_ ?_ ?_ ?_; omega; omega; omega) | (with_reducible refine zb_le ?_ ?_ ?_ ?_ (fun _ => ?_) (fun _ => ?_); omega; omega; omega; omega) | (with_reducible refine zb_lt ?_ ?_ ?_ ?_ (fun _ => ?_) (fun _ => ?_); omega; omega; omega; omega) | (with_reducible refine zb_eq ?_ ?_ ?_ ?_ (fun _ => ?_) (fun _ => ?_); omega; omega; omega; omega) | (with_reducible refine zb_leL ?_ ?_ ?_ ?_ (fun _ => ?_) (fun _ => ?_); omega; omega; omega; omega) | (with_reducible refine zb_ltL ?_ ?_ ?_ ?_ (fun _ => ?_) (fun _ => ?_); omega; omega; omega; omega) | (with_reducible refine zb_eqL ?_ ?_ ?_ ?_ (fun _ => ?_) (fun _ => ?_); omega; omega; omega; omega) | (with_reducible refine zb_nz ?_ ?_ ?_ ?_; omega; omega; omega) | (with_reducible refine zb_nzL ?_ ?_ ?_ ?_; omega; omega; omega) | with_reducible refine zb_ite ?_ | with_reducible refine zb_iteL ?_ | ((with_reducible intro y hy); subst hy; try simp only [zl32, zl64, i32_add, i32_sub, i32_mul, i32_neg, i64_add, i64_sub, i64_mul, i64_neg, cv_gi, cv_gw, cv_ga, cv_gl, cv_pi, cv_pw, cv_pa, cv_pl, zf_S, zf_i, zf_l, mz1, mz2, mz3, mz4, zr_ii, zr_iw, zr_ia, zr_il, zr_wi, zr_ww, zr_wa, zr_wl, zr_ai, zr_aw, zr_aa, zr_al, zr_li, zr_lw, zr_la, zr_ll, zw_ii, zw_ww, zw_aa, zw_ll, reduceIte, Nat.reduceEqDiff, if_true, if_false]) | with_reducible refine zb_o1 ?_ | with_reducible refine zb_o2 ?_ | with_reducible refine zb_o3 ?_ | with_reducible refine zb_o4 ?_ | with_reducible refine zb_tr ?_ | exact trivial | with_reducible refine zb_T ?_ | with_reducible refine zb_sp ?_ ?_)
      exact h hr0 hr1 (fun q a b => ⟨(hμ q a b).1, by have := (hμ q a b).2; show μ q ≤ B; omega⟩)
    | succ n ih =>
      intro μ r hr0 hr1 hμ hμk h
      have hWS := hW.G (kSt_G (μ := μ) (r := r) hx ht)
      obtain ⟨b1, e1, f1, dg1, mo1, rs1, t1, r1, os, om, ot⟩ := hWS.2 k hk1 hk2
      have os1 := os.1
      have ox : kSt S x t μ r x = some (kMo t r) := kSt_x
      have it : kSt S x t μ r t = some (kI 7 μ) := kSt_t hxt
      have hk0 := hμ k hk1 (by omega)
      unfold zt1 at h
      rw [wX6_carries_l18]
      try simp (disch := first | assumption | omega) only [zl32, zl64, i32_add, i32_sub, i32_mul, i32_neg, i64_add, i64_sub, i64_mul, i64_neg, cv_gi, cv_gw, cv_ga, cv_gl, cv_pi, cv_pw, cv_pa, cv_pl, zf_S, zf_i, zf_l, mz1, mz2, mz3, mz4, kn_haI, kn_haJ, kn_haQ, kn_gaI, kn_gaJ, kn_gaQ, kn_hoA, kn_hlen, kn_hfI, kn_hfJ, kn_hfR, kn_hfN, kn_hoI, kn_hoJ, kn_hoR, kn_hoN, kn_hoC, kn_hoP, kn_paI, kn_paJ, kn_paQ, kn_hpF, kuI_ha, kuI_ga, kuI_pa, kuI_hA, kuI_ln, kuB_ha, kuB_ga, kuB_pa, kuB_hA, kuB_ln, kuJ_ha, kuJ_ga, kuJ_pa, kuJ_hA, kuJ_ln, kuQ_ha, kuQ_ga, kuQ_pa, kuQ_hA, kuQ_ln, kuO_fI, kuO_fJ, kuO_fR, kuO_fN, kuO_oI, kuO_oJ, kuO_oR, kuO_oN, kuO_oC, kuO_oP, kuO_pF, kvI_s, kvJ_s, kvR_s, kvN_s, kvN_0, kvN_v, kpI_s, kpJ_s, kpR_s, kpN_s, kpN_0, kpN_v, List.getElem?_cons_zero, List.getElem?_cons_succ, List.set_cons_zero, List.set_cons_succ, List.length_cons, List.length_nil, forall_eq, exists_eq_left', Option.some.injEq, true_and, and_true, reduceIte, Nat.reduceEqDiff, Nat.reduceAdd, Nat.reduceLT, hup_hup, hup_at, eq_self, if_true, if_false, implies_true, true_implies, false_implies, not_true_eq_false, not_false_eq_true, or_true, true_or, i32_10, i32_01, kI_new, kB_new, kJ_new, kI_new2, kB_new2, kJ_new2, kQ_new, kO_new, zkd, zijd, zip1, zip, zim1, i32_natN, ziL, zi_0, zi_1, kO_fI ox, kO_fJ ox, kO_fR ox, kO_fN ox, kO_oI ox, kO_oJ ox, kO_oR ox, kO_oN ox, kO_oC ox, kO_oP ox, kO_pF ox, kI_ha it, kI_ga it, kI_pa it, kI_hA it, kI_ln it, kO_fI os1, kO_fJ os1, kO_fR os1, kO_fN os1, kO_oI os1, kO_oJ os1, kO_oR os1, kO_oN os1, kO_oC os1, kO_oP os1, kO_pF os1]
      repeat' (first | (exfalso; omega) | (with_reducible refine zb_in ?_ ?_ ?_ ?_; omega; omega; omega) | (with_reducible refine zb_le ?_ ?_ ?_ ?_ (fun _ => ?_) (fun _ => ?_); omega; omega; omega; omega) | (with_reducible refine zb_lt ?_ ?_ ?_ ?_ (fun _ => ?_) (fun _ => ?_); omega; omega; omega; omega) | (with_reducible refine zb_eq ?_ ?_ ?_ ?_ (fun _ => ?_) (fun _ => ?_); omega; omega; omega; omega) | (with_reducible refine zb_leL ?_ ?_ ?_ ?_ (fun _ => ?_) (fun _ => ?_); omega; omega; omega; omega) | (with_reducible refine zb_ltL ?_ ?_ ?_ ?_ (fun _ => ?_) (fun _ => ?_); omega; omega; omega; omega) | (with_reducible refine zb_eqL ?_ ?_ ?_ ?_ (fun _ => ?_) (fun _ => ?_); omega; omega; omega; omega) | (with_reducible refine zb_nz ?_ ?_ ?_ ?_; omega; omega; omega) | (with_reducible refine zb_nzL ?_ ?_ ?_ ?_; omega; omega; omega) | with_reducible refine zb_ite ?_ | with_reducible refine zb_iteL ?_ | ((with_reducible intro y hy); subst hy; try simp only [zl32, zl64, i32_add, i32_sub, i32_mul, i32_neg, i64_add, i64_sub, i64_mul, i64_neg, cv_gi, cv_gw, cv_ga, cv_gl, cv_pi, cv_pw, cv_pa, cv_pl, zf_S, zf_i, zf_l, mz1, mz2, mz3, mz4, zr_ii, zr_iw, zr_ia, zr_il, zr_wi, zr_ww, zr_wa, zr_wl, zr_ai, zr_aw, zr_aa, zr_al, zr_li, zr_lw, zr_la, zr_ll, zw_ii, zw_ww, zw_aa, zw_ll, reduceIte, Nat.reduceEqDiff, if_true, if_false]) | with_reducible refine zb_o1 ?_ | with_reducible refine zb_o2 ?_ | with_reducible refine zb_o3 ?_ | with_reducible refine zb_o4 ?_ | with_reducible refine zb_tr ?_ | exact trivial | with_reducible refine zb_T ?_ | with_reducible refine zb_sp ?_ ?_)
      · rw [if_neg (by omega)] at h
        exact h hr0 hr1 (fun q a b => ⟨(hμ q a b).1, by have := (hμ q a b).2; show μ q ≤ B; omega⟩)
      · rw [if_pos (by omega)] at h
        have n1 : sd k ≠ t := kne2 os1 it (by intro e; cases e)
        have n2 : x ≠ t := fun e => hxt e.symm
        rw [kSt_t' hxt]
        have hWS2 := hW.G (kSt_G (μ := zup μ k (μ k - zpR pa k)) (r := r) hx ht)
        obtain ⟨b2, e2, f2, dg2, mo2, rs2, t2, r2, os2, om2, ot2⟩ := hWS2.2 k hk1 hk2
        have os3 := os2.1
        have ox2 : kSt S x t (zup μ k (μ k - zpR pa k)) r x = some (kMo t r) := kSt_x
        have it2 : kSt S x t (zup μ k (μ k - zpR pa k)) r t = some (kI 7 (zup μ k (μ k - zpR pa k))) := kSt_t hxt
        try simp (disch := first | assumption | omega) only [zl32, zl64, i32_add, i32_sub, i32_mul, i32_neg, i64_add, i64_sub, i64_mul, i64_neg, cv_gi, cv_gw, cv_ga, cv_gl, cv_pi, cv_pw, cv_pa, cv_pl, zf_S, zf_i, zf_l, mz1, mz2, mz3, mz4, kn_haI, kn_haJ, kn_haQ, kn_gaI, kn_gaJ, kn_gaQ, kn_hoA, kn_hlen, kn_hfI, kn_hfJ, kn_hfR, kn_hfN, kn_hoI, kn_hoJ, kn_hoR, kn_hoN, kn_hoC, kn_hoP, kn_paI, kn_paJ, kn_paQ, kn_hpF, kuI_ha, kuI_ga, kuI_pa, kuI_hA, kuI_ln, kuB_ha, kuB_ga, kuB_pa, kuB_hA, kuB_ln, kuJ_ha, kuJ_ga, kuJ_pa, kuJ_hA, kuJ_ln, kuQ_ha, kuQ_ga, kuQ_pa, kuQ_hA, kuQ_ln, kuO_fI, kuO_fJ, kuO_fR, kuO_fN, kuO_oI, kuO_oJ, kuO_oR, kuO_oN, kuO_oC, kuO_oP, kuO_pF, kvI_s, kvJ_s, kvR_s, kvN_s, kvN_0, kvN_v, kpI_s, kpJ_s, kpR_s, kpN_s, kpN_0, kpN_v, List.getElem?_cons_zero, List.getElem?_cons_succ, List.set_cons_zero, List.set_cons_succ, List.length_cons, List.length_nil, forall_eq, exists_eq_left', Option.some.injEq, true_and, and_true, reduceIte, Nat.reduceEqDiff, Nat.reduceAdd, Nat.reduceLT, hup_hup, hup_at, eq_self, if_true, if_false, implies_true, true_implies, false_implies, not_true_eq_false, not_false_eq_true, or_true, true_or, i32_10, i32_01, kI_new, kB_new, kJ_new, kI_new2, kB_new2, kJ_new2, kQ_new, kO_new, zkd, zijd, zip1, zip, zim1, i32_natN, ziL, zi_0, zi_1, kO_fI os3, kO_fJ os3, kO_fR os3, kO_fN os3, kO_oI os3, kO_oJ os3, kO_oR os3, kO_oN os3, kO_oC os3, kO_oP os3, kO_pF os3, kO_fI ox2, kO_fJ ox2, kO_fR ox2, kO_fN ox2, kO_oI ox2, kO_oJ ox2, kO_oR ox2, kO_oN ox2, kO_oC ox2, kO_oP ox2, kO_pF ox2, kvr_s]
        refine kC_comes ox2 om2.1 it2 ot2.1 (fun e => ot2.2 (by rw [e]; exact ht)) 1 _ ?_
        rw [kSt_t' hxt]
        obtain ⟨μ2, hμ2⟩ : ∃ μ2 : Nat → Int, μ2 = fun q => (if q = k then μ q - zpR pa k else μ q) + zpM pa k q := ⟨_, rfl⟩
        have eμ : (fun q => zup μ k (μ k - zpR pa k) q + 1 * zpM pa k q) = μ2 := by
          rw [hμ2]
          funext q
          unfold zup
          rw [Int.one_mul]
          by_cases c : q = k
          · rw [if_pos c, if_pos c, c]
          · rw [if_neg c, if_neg c]
        rw [eμ]
        rw [← hμ2] at h
        have hWS3 := hW.G (kSt_G (μ := μ2) (r := r) hx ht)
        obtain ⟨rootL', mfL', nuL', kaL', woL', ptL', slL', fiL', ixL', oL', _, _⟩ := hWS3.1 (zpL pa) hv.1 (Nat.le_refl _)
        have oL1' := oL'.1
        have ox3 : kSt S x t μ2 r x = some (kMo t r) := kSt_x
        have oT3 : kSt S x t μ2 r T = some (kTo fa dg L1 L2 P hd hv0 (A 0)) := (kSt_o hTx hTt).trans oT
        have o03 : kSt S x t μ2 r (A 0) = some (kOb A p M tr) := (kSt_o h0x h0t).trans o0
        try simp (disch := first | assumption | omega) only [zl32, zl64, i32_add, i32_sub, i32_mul, i32_neg, i64_add, i64_sub, i64_mul, i64_neg, cv_gi, cv_gw, cv_ga, cv_gl, cv_pi, cv_pw, cv_pa, cv_pl, zf_S, zf_i, zf_l, mz1, mz2, mz3, mz4, kn_haI, kn_haJ, kn_haQ, kn_gaI, kn_gaJ, kn_gaQ, kn_hoA, kn_hlen, kn_hfI, kn_hfJ, kn_hfR, kn_hfN, kn_hoI, kn_hoJ, kn_hoR, kn_hoN, kn_hoC, kn_hoP, kn_paI, kn_paJ, kn_paQ, kn_hpF, kuI_ha, kuI_ga, kuI_pa, kuI_hA, kuI_ln, kuB_ha, kuB_ga, kuB_pa, kuB_hA, kuB_ln, kuJ_ha, kuJ_ga, kuJ_pa, kuJ_hA, kuJ_ln, kuQ_ha, kuQ_ga, kuQ_pa, kuQ_hA, kuQ_ln, kuO_fI, kuO_fJ, kuO_fR, kuO_fN, kuO_oI, kuO_oJ, kuO_oR, kuO_oN, kuO_oC, kuO_oP, kuO_pF, kvI_s, kvJ_s, kvR_s, kvN_s, kvN_0, kvN_v, kpI_s, kpJ_s, kpR_s, kpN_s, kpN_0, kpN_v, List.getElem?_cons_zero, List.getElem?_cons_succ, List.set_cons_zero, List.set_cons_succ, List.length_cons, List.length_nil, forall_eq, exists_eq_left', Option.some.injEq, true_and, and_true, reduceIte, Nat.reduceEqDiff, Nat.reduceAdd, Nat.reduceLT, hup_hup, hup_at, eq_self, if_true, if_false, implies_true, true_implies, false_implies, not_true_eq_false, not_false_eq_true, or_true, true_or, i32_10, i32_01, kI_new, kB_new, kJ_new, kI_new2, kB_new2, kJ_new2, kQ_new, kO_new, zkd, zijd, zip1, zip, zim1, i32_natN, ziL, zi_0, zi_1, kO_fI ox3, kO_fJ ox3, kO_fR ox3, kO_fN ox3, kO_oI ox3, kO_oJ ox3, kO_oR ox3, kO_oN ox3, kO_oC ox3, kO_oP ox3, kO_pF ox3, kO_fI oL1', kO_fJ oL1', kO_fR oL1', kO_fN oL1', kO_oI oL1', kO_oJ oL1', kO_oR oL1', kO_oN oL1', kO_oC oL1', kO_oP oL1', kO_pF oL1']
        refine kC_rootB hWS3 hL6 k hk1 _ ?_ 8 (zpL pa) hk2 (Nat.le_refl _) (by omega)
        try simp (disch := first | assumption | omega) only [zl32, zl64, i32_add, i32_sub, i32_mul, i32_neg, i64_add, i64_sub, i64_mul, i64_neg, cv_gi, cv_gw, cv_ga, cv_gl, cv_pi, cv_pw, cv_pa, cv_pl, zf_S, zf_i, zf_l, mz1, mz2, mz3, mz4, kn_haI, kn_haJ, kn_haQ, kn_gaI, kn_gaJ, kn_gaQ, kn_hoA, kn_hlen, kn_hfI, kn_hfJ, kn_hfR, kn_hfN, kn_hoI, kn_hoJ, kn_hoR, kn_hoN, kn_hoC, kn_hoP, kn_paI, kn_paJ, kn_paQ, kn_hpF, kuI_ha, kuI_ga, kuI_pa, kuI_hA, kuI_ln, kuB_ha, kuB_ga, kuB_pa, kuB_hA, kuB_ln, kuJ_ha, kuJ_ga, kuJ_pa, kuJ_hA, kuJ_ln, kuQ_ha, kuQ_ga, kuQ_pa, kuQ_hA, kuQ_ln, kuO_fI, kuO_fJ, kuO_fR, kuO_fN, kuO_oI, kuO_oJ, kuO_oR, kuO_oN, kuO_oC, kuO_oP, kuO_pF, kvI_s, kvJ_s, kvR_s, kvN_s, kvN_0, kvN_v, kpI_s, kpJ_s, kpR_s, kpN_s, kpN_0, kpN_v, List.getElem?_cons_zero, List.getElem?_cons_succ, List.set_cons_zero, List.set_cons_succ, List.length_cons, List.length_nil, forall_eq, exists_eq_left', Option.some.injEq, true_and, and_true, reduceIte, Nat.reduceEqDiff, Nat.reduceAdd, Nat.reduceLT, hup_hup, hup_at, eq_self, if_true, if_false, implies_true, true_implies, false_implies, not_true_eq_false, not_false_eq_true, or_true, true_or, i32_10, i32_01, kI_new, kB_new, kJ_new, kI_new2, kB_new2, kJ_new2, kQ_new, kO_new, zkd, zijd, zip1, zip, zim1, i32_natN, ziL, zi_0, zi_1, kO_fI oT3, kO_fJ oT3, kO_fR oT3, kO_fN oT3, kO_oI oT3, kO_oJ oT3, kO_oR oT3, kO_oN oT3, kO_oC oT3, kO_oP oT3, kO_pF oT3, kO_fI o03, kO_fJ o03, kO_fR o03, kO_fN o03, kO_oI o03, kO_oJ o03, kO_oR o03, kO_oN o03, kO_oC o03, kO_oP o03, kO_pF o03, kO_fI ox3, kO_fJ ox3, kO_fR ox3, kO_fN ox3, kO_oI ox3, kO_oJ ox3, kO_oR ox3, kO_oN ox3, kO_oC ox3, kO_oP ox3, kO_pF ox3, kO_fI oT, kO_fJ oT, kO_fR oT, kO_fN oT, kO_oI oT, kO_oJ oT, kO_oR oT, kO_oN oT, kO_oC oT, kO_oP oT, kO_pF oT, kO_fI o0, kO_fJ o0, kO_fR o0, kO_fN o0, kO_oI o0, kO_oJ o0, kO_oR o0, kO_oN o0, kO_oC o0, kO_oP o0, kO_pF o0, c2]
        have rb := ze_mulp hr0 hr1 (b := zpO pa k) (by omega) hWk.2.2.1 hp7
        rw [i32_div (by omega) (by omega) (by omega) (by omega)]
        try simp only [zl32, zl64, i32_add, i32_sub, i32_mul, i32_neg, i64_add, i64_sub, i64_mul, i64_neg, cv_gi, cv_gw, cv_ga, cv_gl, cv_pi, cv_pw, cv_pa, cv_pl, zf_S, zf_i, zf_l, mz1, mz2, mz3, mz4]
        rw [ze_tmod, ze_tmodn rb.1]
        refine ih μ2 (r * zpO pa k % p) (Int.emod_nonneg _ (by omega)) (Int.emod_lt_of_pos _ (by omega)) (fun q a b => ?_) ?_ h
        · have w := hWk.2.2.2.2 q a b
          have b2 := hμ q a b
          rw [hμ2]
          dsimp only
          by_cases c : q = k
          · rw [if_pos c]
            have := w.2.2 (by omega)
            subst c
            omega
          · rw [if_neg c]
            omega
        · have w := hWk.2.2.2.2 k hk1 (by omega)
          rw [hμ2]
          dsimp only
          rw [if_pos rfl, w.2.2 (Nat.le_refl _)]
          omega
  have L7 : ∀ (k : Nat) (μ : Nat → Int) (r b : Int), k < zpL pa → 0 ≤ r → r < p → (∀ q, 1 ≤ q → q < 7 → 0 ≤ μ q ∧ μ q ≤ b) → b * 4 ^ k ≤ 1024000 → 0 ≤ b → Q (kSt S x t (zt2 pa p k μ r).1 (zt2 pa p k μ r).2) → wX6_carries_l7 Q T (w (zpL pa)) x (k + 1) (kSt S x t μ r) (i32 k) := by
    intro k
    induction k with
    | zero =>
      intro μ r b hk hr0 hr1 hμ hb hb0 h
      rw [wX6_carries_l7]
      try simp only [zl32, zl64, i32_add, i32_sub, i32_mul, i32_neg, i64_add, i64_sub, i64_mul, i64_neg, cv_gi, cv_gw, cv_ga, cv_gl, cv_pi, cv_pw, cv_pa, cv_pl, zf_S, zf_i, zf_l, mz1, mz2, mz3, mz4]
      repeat' (first | (exfalso; omega) | (with_reducible refine zb_in ?_ ?_ ?_ ?_; omega; omega; omega) | (with_reducible refine zb_le ?_ ?_ ?_ ?_ (fun _ => ?_) (fun _ => ?_); omega; omega; omega; omega) | (with_reducible refine zb_lt ?_ ?_ ?_ ?_ (fun _ => ?_) (fun _ => ?_); omega; omega; omega; omega) | (with_reducible refine zb_eq ?_ ?_ ?_ ?_ (fun _ => ?_) (fun _ => ?_); omega; omega; omega; omega) | (with_reducible refine zb_leL ?_ ?_ ?_ ?_ (fun _ => ?_) (fun _ => ?_); omega; omega; omega; omega) | (with_reducible refine zb_ltL ?_ ?_ ?_ ?_ (fun _ => ?_) (fun _ => ?_); omega; omega; omega; omega) | (with_reducible refine zb_eqL ?_ ?_ ?_ ?_ (fun _ => ?_) (fun _ => ?_); omega; omega; omega; omega) | (with_reducible refine zb_nz ?_ ?_ ?_ ?_; omega; omega; omega) | (with_reducible refine zb_nzL ?_ ?_ ?_ ?_; omega; omega; omega) | with_reducible refine zb_ite ?_ | with_reducible refine zb_iteL ?_ | ((with_reducible intro y hy); subst hy; try simp only [zl32, zl64, i32_add, i32_sub, i32_mul, i32_neg, i64_add, i64_sub, i64_mul, i64_neg, cv_gi, cv_gw, cv_ga, cv_gl, cv_pi, cv_pw, cv_pa, cv_pl, zf_S, zf_i, zf_l, mz1, mz2, mz3, mz4, zr_ii, zr_iw, zr_ia, zr_il, zr_wi, zr_ww, zr_wa, zr_wl, zr_ai, zr_aw, zr_aa, zr_al, zr_li, zr_lw, zr_la, zr_ll, zw_ii, zw_ww, zw_aa, zw_ll, reduceIte, Nat.reduceEqDiff, if_true, if_false]) | with_reducible refine zb_o1 ?_ | with_reducible refine zb_o2 ?_ | with_reducible refine zb_o3 ?_ | with_reducible refine zb_o4 ?_ | with_reducible refine zb_tr ?_ | exact trivial | with_reducible refine zb_T ?_ | with_reducible refine zb_sp ?_ ?_)
      exact h
    | succ k ih =>
      intro μ r b hk hr0 hr1 hμ hb hb0 h
      have hWS := hW.G (kSt_G (μ := μ) (r := r) hx ht)
      obtain ⟨rootL', mfL', nuL', kaL', woL', ptL', slL', fiL', ixL', oL', _, _⟩ := hWS.1 (zpL pa) hv.1 (Nat.le_refl _)
      have oL1' := oL'.1
      rw [wX6_carries_l7]
      try simp (disch := first | assumption | omega) only [zl32, zl64, i32_add, i32_sub, i32_mul, i32_neg, i64_add, i64_sub, i64_mul, i64_neg, cv_gi, cv_gw, cv_ga, cv_gl, cv_pi, cv_pw, cv_pa, cv_pl, zf_S, zf_i, zf_l, mz1, mz2, mz3, mz4, kn_haI, kn_haJ, kn_haQ, kn_gaI, kn_gaJ, kn_gaQ, kn_hoA, kn_hlen, kn_hfI, kn_hfJ, kn_hfR, kn_hfN, kn_hoI, kn_hoJ, kn_hoR, kn_hoN, kn_hoC, kn_hoP, kn_paI, kn_paJ, kn_paQ, kn_hpF, kuI_ha, kuI_ga, kuI_pa, kuI_hA, kuI_ln, kuB_ha, kuB_ga, kuB_pa, kuB_hA, kuB_ln, kuJ_ha, kuJ_ga, kuJ_pa, kuJ_hA, kuJ_ln, kuQ_ha, kuQ_ga, kuQ_pa, kuQ_hA, kuQ_ln, kuO_fI, kuO_fJ, kuO_fR, kuO_fN, kuO_oI, kuO_oJ, kuO_oR, kuO_oN, kuO_oC, kuO_oP, kuO_pF, kvI_s, kvJ_s, kvR_s, kvN_s, kvN_0, kvN_v, kpI_s, kpJ_s, kpR_s, kpN_s, kpN_0, kpN_v, List.getElem?_cons_zero, List.getElem?_cons_succ, List.set_cons_zero, List.set_cons_succ, List.length_cons, List.length_nil, forall_eq, exists_eq_left', Option.some.injEq, true_and, and_true, reduceIte, Nat.reduceEqDiff, Nat.reduceAdd, Nat.reduceLT, hup_hup, hup_at, eq_self, if_true, if_false, implies_true, true_implies, false_implies, not_true_eq_false, not_false_eq_true, or_true, true_or, i32_10, i32_01, kI_new, kB_new, kJ_new, kI_new2, kB_new2, kJ_new2, kQ_new, kO_new, zkd, zijd, zip1, zip, zim1, i32_natN, ziL, zi_0, zi_1, kO_fI oL1', kO_fJ oL1', kO_fR oL1', kO_fN oL1', kO_oI oL1', kO_oJ oL1', kO_oR oL1', kO_oN oL1', kO_oC oL1', kO_oP oL1', kO_pF oL1']
      repeat' (first | (exfalso; omega) | (with_reducible refine zb_in ?_ ?_ ?_ ?_; omega; omega; omega) | (with_reducible refine zb_le ?_ ?_ ?_ ?_ (fun _ => ?_) (fun _ => ?_); omega; omega; omega; omega) | (with_reducible refine zb_lt ?_ ?_ ?_ ?_ (fun _ => ?_) (fun _ => ?_); omega; omega; omega; omega) | (with_reducible refine zb_eq ?_ ?_ ?_ ?_ (fun _ => ?_) (fun _ => ?_); omega; omega; omega; omega) | (with_reducible refine zb_leL ?_ ?_ ?_ ?_ (fun _ => ?_) (fun _ => ?_); omega; omega; omega; omega) | (with_reducible refine zb_ltL ?_ ?_ ?_ ?_ (fun _ => ?_) (fun _ => ?_); omega; omega; omega; omega) | (with_reducible refine zb_eqL ?_ ?_ ?_ ?_ (fun _ => ?_) (fun _ => ?_); omega; omega; omega; omega) | (with_reducible refine zb_nz ?_ ?_ ?_ ?_; omega; omega; omega) | (with_reducible refine zb_nzL ?_ ?_ ?_ ?_; omega; omega; omega) | with_reducible refine zb_ite ?_ | with_reducible refine zb_iteL ?_ | ((with_reducible intro y hy); subst hy; try simp only [zl32, zl64, i32_add, i32_sub, i32_mul, i32_neg, i64_add, i64_sub, i64_mul, i64_neg, cv_gi, cv_gw, cv_ga, cv_gl, cv_pi, cv_pw, cv_pa, cv_pl, zf_S, zf_i, zf_l, mz1, mz2, mz3, mz4, zr_ii, zr_iw, zr_ia, zr_il, zr_wi, zr_ww, zr_wa, zr_wl, zr_ai, zr_aw, zr_aa, zr_al, zr_li, zr_lw, zr_la, zr_ll, zw_ii, zw_ww, zw_aa, zw_ll, reduceIte, Nat.reduceEqDiff, if_true, if_false]) | with_reducible refine zb_o1 ?_ | with_reducible refine zb_o2 ?_ | with_reducible refine zb_o3 ?_ | with_reducible refine zb_o4 ?_ | with_reducible refine zb_tr ?_ | exact trivial | with_reducible refine zb_T ?_ | with_reducible refine zb_sp ?_ ?_)
      have hk0 := hμ (k + 1) (by omega) (by omega)
      have hb4 : b * 4 ^ (k + 1) = (4 * b) * 4 ^ k := by
        rw [Int.pow_succ, Int.mul_comm 4 b, Int.mul_assoc, Int.mul_comm (4 ^ k)]
      have h4k : (1 : Int) ≤ 4 ^ k := Int.pow_pos (by omega)
      have hbB : 4 * b ≤ 1024000 := by
        have := Int.mul_le_mul_of_nonneg_left h4k (show 0 ≤ 4 * b by omega)
        omega
      refine kC_behind hWS hL6 (k + 1) (by omega) _ ?_ 8 (zpL pa) hk (Nat.le_refl _) (by omega)
      refine ⟨(μ (k + 1)).toNat + 1, ?_⟩
      refine L18 (k + 1) (by omega) hk (4 * b) (by omega) _ (μ (k + 1)).toNat μ r hr0 hr1 (fun q a c => ⟨(hμ q a c).1, by have := (hμ q a c).2; omega⟩) (by omega) (fun v3 v4 v5 => ?_)
      rw [show ((k + 1 : Nat) : Int) + -1 = (k : Int) by omega]
      exact ih _ _ (4 * b) (by omega) v3 v4 v5 (by omega) (by omega) h
  have hWS := hW.G (kSt_G (μ := μ) (r := r) hx ht)
  obtain ⟨rootL', mfL', nuL', kaL', woL', ptL', slL', fiL', ixL', oL', _, _⟩ := hWS.1 (zpL pa) hv.1 (Nat.le_refl _)
  have oL1' := oL'.1
  unfold wX6_carries
  try simp (disch := first | assumption | omega) only [zl32, zl64, i32_add, i32_sub, i32_mul, i32_neg, i64_add, i64_sub, i64_mul, i64_neg, cv_gi, cv_gw, cv_ga, cv_gl, cv_pi, cv_pw, cv_pa, cv_pl, zf_S, zf_i, zf_l, mz1, mz2, mz3, mz4, kn_haI, kn_haJ, kn_haQ, kn_gaI, kn_gaJ, kn_gaQ, kn_hoA, kn_hlen, kn_hfI, kn_hfJ, kn_hfR, kn_hfN, kn_hoI, kn_hoJ, kn_hoR, kn_hoN, kn_hoC, kn_hoP, kn_paI, kn_paJ, kn_paQ, kn_hpF, kuI_ha, kuI_ga, kuI_pa, kuI_hA, kuI_ln, kuB_ha, kuB_ga, kuB_pa, kuB_hA, kuB_ln, kuJ_ha, kuJ_ga, kuJ_pa, kuJ_hA, kuJ_ln, kuQ_ha, kuQ_ga, kuQ_pa, kuQ_hA, kuQ_ln, kuO_fI, kuO_fJ, kuO_fR, kuO_fN, kuO_oI, kuO_oJ, kuO_oR, kuO_oN, kuO_oC, kuO_oP, kuO_pF, kvI_s, kvJ_s, kvR_s, kvN_s, kvN_0, kvN_v, kpI_s, kpJ_s, kpR_s, kpN_s, kpN_0, kpN_v, List.getElem?_cons_zero, List.getElem?_cons_succ, List.set_cons_zero, List.set_cons_succ, List.length_cons, List.length_nil, forall_eq, exists_eq_left', Option.some.injEq, true_and, and_true, reduceIte, Nat.reduceEqDiff, Nat.reduceAdd, Nat.reduceLT, hup_hup, hup_at, eq_self, if_true, if_false, implies_true, true_implies, false_implies, not_true_eq_false, not_false_eq_true, or_true, true_or, i32_10, i32_01, kI_new, kB_new, kJ_new, kI_new2, kB_new2, kJ_new2, kQ_new, kO_new, zkd, zijd, zip1, zip, zim1, i32_natN, ziL, zi_0, zi_1, kO_fI oL1', kO_fJ oL1', kO_fR oL1', kO_fN oL1', kO_oI oL1', kO_oJ oL1', kO_oR oL1', kO_oN oL1', kO_oC oL1', kO_oP oL1', kO_pF oL1']
  rw [show ((zpL pa : Int) - 1) = ((zpL pa - 1 : Nat) : Int) by omega]
  refine ⟨zpL pa - 1 + 1, L7 (zpL pa - 1) μ r 1000 (by omega) hr0 hr1 hμ ?_ (by omega) q⟩
  have : (4 : Int) ^ (zpL pa - 1) ≤ 4 ^ 5 := by
    have hl : zpL pa - 1 = 0 ∨ zpL pa - 1 = 1 ∨ zpL pa - 1 = 2 ∨ zpL pa - 1 = 3 ∨ zpL pa - 1 = 4 ∨ zpL pa - 1 = 5 := by omega
    rcases hl with e | e | e | e | e | e <;> rw [e] <;> decide
  have := Int.mul_le_mul_of_nonneg_left this (show (0 : Int) ≤ 1000 by omega)
  omega
theorem zpD_mul {M : Int} {pa : zP} (hv : zPv M pa) {k : Nat} (h1 : 1 ≤ k) (h2 : k < zpL pa) : zpD pa (zpL pa) / zpD pa k = zpD pa (zpL pa) / zpD pa (k + 1) * zpR pa k ∧ 1 ≤ zpD pa (zpL pa) / zpD pa (k + 1) := by
  obtain ⟨c, e, hc⟩ := zD_div hv (i := k + 1) (l := zpL pa) (by omega) (by omega) (Nat.le_refl _)
  have hD1 := (hv.D (k := k + 1) (by omega) (by omega)).1
  have hD0 := (hv.D (k := k) (by omega) (by omega)).1
  have hs := hv.Ds h1
  rw [e, Nat.mul_div_cancel _ (by omega)]
  refine ⟨?_, hc⟩
  rw [hs, show c * (zpD pa k * zpR pa k) = c * zpR pa k * zpD pa k from by rw [Nat.mul_comm (zpD pa k), Nat.mul_assoc], Nat.mul_div_cancel _ (by omega)]
theorem ze_tz {a b : Int} (hb : b ≠ 0) : a - a.tdiv b * b = 0 ↔ a % b = 0 := by
  rw [ze_tmod]
  refine ⟨fun h => Int.emod_eq_zero_of_dvd (Int.dvd_of_tmod_eq_zero h), fun h => Int.tmod_eq_zero_of_dvd (Int.dvd_of_emod_eq_zero h)⟩
theorem ze_cm {x c R : Int} (hc : 0 < c) : (x * c) % (c * R) = 0 ↔ x % R = 0 := by
  rw [Int.mul_comm x c, Int.mul_emod_mul_of_pos _ _ hc]
  refine ⟨fun h => ?_, fun h => by rw [h, Int.mul_zero]⟩
  rcases Int.mul_eq_zero.mp h with e | e
  · omega
  · exact e
theorem kC_ofValue {M p : Int} {S : hH} {m : Nat → Prop} {w sd : Nat → Nat} {pa : zP} (hW : kWy m S w sd pa) (hv : zPv M pa) (hw : zPw p pa) {T : Nat} (v : Int) (h1 : -100000 ≤ v) (h2 : v ≤ 400000) (mc ms : Nat) (hmc : 2 ≤ mc) (hms : 9 ≤ ms) (Q : Nat → hH → Prop)
    (q : ∀ x t, S x = none → S t = none → x ≠ t → Q x (kSt S x t (zvm pa v) 1)) : wX6_ofValue mc ms S T (w (zpL pa)) (i32 v) Q := by
  have hL6 := hv.2.1
  have hL1 := hv.1
  have hD4 := hv.2.2.2.1
  have hD1 := (hv.D hL1 (Nat.le_refl _)).1
  obtain ⟨rootL, mfL, nuL, kaL, woL, ptL, slL, fiL, ixL, oL, _, _⟩ := hW.1 (zpL pa) hv.1 (Nat.le_refl _)
  have oL1 := oL.1
  unfold wX6_ofValue
  refine ⟨by omega, by omega, ?_⟩
  intro x hx
  rw [kO_new]
  have nLx : w (zpL pa) ≠ x := kne oL1 hx
  try simp (disch := first | assumption | omega) only [zl32, zl64, i32_add, i32_sub, i32_mul, i32_neg, i64_add, i64_sub, i64_mul, i64_neg, cv_gi, cv_gw, cv_ga, cv_gl, cv_pi, cv_pw, cv_pa, cv_pl, zf_S, zf_i, zf_l, mz1, mz2, mz3, mz4, kn_haI, kn_haJ, kn_haQ, kn_gaI, kn_gaJ, kn_gaQ, kn_hoA, kn_hlen, kn_hfI, kn_hfJ, kn_hfR, kn_hfN, kn_hoI, kn_hoJ, kn_hoR, kn_hoN, kn_hoC, kn_hoP, kn_paI, kn_paJ, kn_paQ, kn_hpF, kuI_ha, kuI_ga, kuI_pa, kuI_hA, kuI_ln, kuB_ha, kuB_ga, kuB_pa, kuB_hA, kuB_ln, kuJ_ha, kuJ_ga, kuJ_pa, kuJ_hA, kuJ_ln, kuQ_ha, kuQ_ga, kuQ_pa, kuQ_hA, kuQ_ln, kuO_fI, kuO_fJ, kuO_fR, kuO_fN, kuO_oI, kuO_oJ, kuO_oR, kuO_oN, kuO_oC, kuO_oP, kuO_pF, kvI_s, kvJ_s, kvR_s, kvN_s, kvN_0, kvN_v, kpI_s, kpJ_s, kpR_s, kpN_s, kpN_0, kpN_v, List.getElem?_cons_zero, List.getElem?_cons_succ, List.set_cons_zero, List.set_cons_succ, List.length_cons, List.length_nil, forall_eq, exists_eq_left', Option.some.injEq, true_and, and_true, reduceIte, Nat.reduceEqDiff, Nat.reduceAdd, Nat.reduceLT, hup_hup, hup_at, eq_self, if_true, if_false, implies_true, true_implies, false_implies, not_true_eq_false, not_false_eq_true, or_true, true_or, i32_10, i32_01, kI_new, kB_new, kJ_new, kI_new2, kB_new2, kJ_new2, kQ_new, kO_new, zkd, zijd, zip1, zip, zim1, i32_natN, ziL, zi_0, zi_1]
  refine ⟨1, 7, by omega, by omega, ?_⟩
  refine kC_moInit (fs := []) (hup_at _ _ _) 1 7 (by omega) (by omega) _ (fun t ht => ?_)
  have nxt : x ≠ t := fun e => by rw [← e, hup_at] at ht; cases ht
  have ntx : t ≠ x := fun e => nxt e.symm
  have htS : S t = none := by rw [hup_ne ntx] at ht; exact ht
  have nLt : w (zpL pa) ≠ t := kne oL1 htS
  have e0 : hup (hup (hup S x (kO 10 [.null, .int (i32 0)])) t (kI 7 (fun _ => 0))) x (kMo t 1) = kSt S x t (fun _ => 0) 1 := by
    unfold kSt
    rw [hup_cm ntx, hup_hup, hup_cm nxt]
  rw [e0]
  have hG : ∀ μ : Nat → Int, kG m m S (kSt S x t μ 1) := by
    intro μ q y hq
    exact ⟨(kSt_o (kne hq.1 hx) (kne hq.1 htS)).trans hq.1, hq.2⟩
  try simp (disch := first | assumption | omega) only [zl32, zl64, i32_add, i32_sub, i32_mul, i32_neg, i64_add, i64_sub, i64_mul, i64_neg, cv_gi, cv_gw, cv_ga, cv_gl, cv_pi, cv_pw, cv_pa, cv_pl, zf_S, zf_i, zf_l, mz1, mz2, mz3, mz4, kn_haI, kn_haJ, kn_haQ, kn_gaI, kn_gaJ, kn_gaQ, kn_hoA, kn_hlen, kn_hfI, kn_hfJ, kn_hfR, kn_hfN, kn_hoI, kn_hoJ, kn_hoR, kn_hoN, kn_hoC, kn_hoP, kn_paI, kn_paJ, kn_paQ, kn_hpF, kuI_ha, kuI_ga, kuI_pa, kuI_hA, kuI_ln, kuB_ha, kuB_ga, kuB_pa, kuB_hA, kuB_ln, kuJ_ha, kuJ_ga, kuJ_pa, kuJ_hA, kuJ_ln, kuQ_ha, kuQ_ga, kuQ_pa, kuQ_hA, kuQ_ln, kuO_fI, kuO_fJ, kuO_fR, kuO_fN, kuO_oI, kuO_oJ, kuO_oR, kuO_oN, kuO_oC, kuO_oP, kuO_pF, kvI_s, kvJ_s, kvR_s, kvN_s, kvN_0, kvN_v, kpI_s, kpJ_s, kpR_s, kpN_s, kpN_0, kpN_v, List.getElem?_cons_zero, List.getElem?_cons_succ, List.set_cons_zero, List.set_cons_succ, List.length_cons, List.length_nil, forall_eq, exists_eq_left', Option.some.injEq, true_and, and_true, reduceIte, Nat.reduceEqDiff, Nat.reduceAdd, Nat.reduceLT, hup_hup, hup_at, eq_self, if_true, if_false, implies_true, true_implies, false_implies, not_true_eq_false, not_false_eq_true, or_true, true_or, i32_10, i32_01, kI_new, kB_new, kJ_new, kI_new2, kB_new2, kJ_new2, kQ_new, kO_new, zkd, zijd, zip1, zip, zim1, i32_natN, ziL, zi_0, zi_1, kO_fI oL1, kO_fJ oL1, kO_fR oL1, kO_fN oL1, kO_oI oL1, kO_oJ oL1, kO_oR oL1, kO_oN oL1, kO_oC oL1, kO_oP oL1, kO_pF oL1]
  rw [show ((zpL pa : Int) - 1) = ((zpL pa - 1 : Nat) : Int) by omega]
  have L40 : ∀ (k : Nat), 1 ≤ k → k < zpL pa → ∀ (n0 : Int), -200000 ≤ n0 → n0 ≤ 500000 → ∀ (rec19 : hH → Int32 → Int32 → Prop) (kc nc : Nat) (n tt : Nat) (μ : Nat → Int), tt + n ≤ zpR pa k → (∃ q, tt ≤ q ∧ q < tt + n ∧ (n0 - q * zpS pa k) % zpR pa k = 0) → μ k = tt →
      rec19 (kSt S x t (zup μ k (zfnd n0 (zpS pa k) (zpR pa k) n tt)) 1) (i32 ((n0 - zfnd n0 (zpS pa k) (zpR pa k) n tt * zpS pa k) * ((zpD pa (zpL pa) / zpD pa (k + 1) : Nat) : Int))) (i32 ((k : Int) + -1)) →
      wX6_ofValue_l40 mc ms rec19 Q kc nc (w (zpL pa)) x (i32 k) (i32 ((zpD pa (zpL pa) / zpD pa k : Nat) : Int)) (n + 1) (kSt S x t μ 1) (i32 ((n0 - tt * zpS pa k) * ((zpD pa (zpL pa) / zpD pa (k + 1) : Nat) : Int))) := by
    intro k hk1 hk2 n0 hn1 hn2 rec19 kc nc n
    have hR := hv.R hk1 hk2
    have hS := hv.2.2.2.2.1 k hk1 hk2
    obtain ⟨em, ec⟩ := zpD_mul hv hk1 hk2
    have hc4 : zpD pa (zpL pa) / zpD pa (k + 1) ≤ 4 := Nat.le_trans (Nat.div_le_self _ _) hD4
    have hk4 : zpD pa (zpL pa) / zpD pa k ≤ 4 := Nat.le_trans (Nat.div_le_self _ _) hD4
    generalize hcd : zpD pa (zpL pa) / zpD pa (k + 1) = c at *
    generalize hckd : zpD pa (zpL pa) / zpD pa k = ck at *
    have hcR : 1 * 1 ≤ c * zpR pa k := Nat.mul_le_mul ec hR.1
    induction n with
    | zero =>
      intro tt μ _ h
      obtain ⟨q, a, b, _⟩ := h
      omega
    | succ n ih =>
      intro tt μ htn hex hμ hrec
      have hmul : 0 ≤ (tt : Int) * zpS pa k ∧ (tt : Int) * zpS pa k ≤ 6912 := by
        refine ⟨Int.mul_nonneg (by omega) hS.1, ?_⟩
        have := Int.mul_le_mul (a := (tt : Int)) (b := zpS pa k) (c := 4) (d := 1728) (by omega) hS.2 hS.1 (by omega)
        omega
      have hlb : -900000 ≤ (n0 - tt * zpS pa k) * (c : Int) ∧ (n0 - tt * zpS pa k) * (c : Int) ≤ 2000000 := by
        have : c = 1 ∨ c = 2 ∨ c = 3 ∨ c = 4 := by omega
        rcases this with rfl | rfl | rfl | rfl <;> omega
      have hwb : 0 ≤ zpS pa k * (c : Int) ∧ zpS pa k * (c : Int) ≤ 6912 := by
        have : c = 1 ∨ c = 2 ∨ c = 3 ∨ c = 4 := by omega
        rcases this with rfl | rfl | rfl | rfl <;> omega
      have c1 : ¬ i32 (ck : Int) = i32 0 := fun e => by rw [i32_eq (by omega) (by omega) (by omega) (by omega)] at e; omega
      have hz : (n0 - tt * zpS pa k) * (c : Int) - ((n0 - tt * zpS pa k) * (c : Int)).tdiv (ck : Int) * (ck : Int) = 0 ↔ (n0 - tt * zpS pa k) % zpR pa k = 0 := by
        rw [ze_tz (by omega), em, Int.natCast_mul]
        exact ze_cm (by omega)
      have htb : -10 < (n0 - tt * zpS pa k) * (c : Int) - ((n0 - tt * zpS pa k) * (c : Int)).tdiv (ck : Int) * (ck : Int) ∧ (n0 - tt * zpS pa k) * (c : Int) - ((n0 - tt * zpS pa k) * (c : Int)).tdiv (ck : Int) * (ck : Int) < 10 := by
        rw [ze_tmod]
        have := ze_mod ((n0 - tt * zpS pa k) * (c : Int)) (ck : Int) (by omega)
        omega
      have hWS := hW.G (hG μ)
      obtain ⟨rootL', mfL', nuL', kaL', woL', ptL', slL', fiL', ixL', oL', _, _⟩ := hWS.1 (zpL pa) hv.1 (Nat.le_refl _)
      have oL1' := oL'.1
      have ox : kSt S x t μ 1 x = some (kMo t 1) := kSt_x
      have it : kSt S x t μ 1 t = some (kI 7 μ) := kSt_t ntx
      unfold zfnd at hrec
      rw [wX6_ofValue_l40]
      try simp (disch := first | assumption | omega) only [zl32, zl64, i32_add, i32_sub, i32_mul, i32_neg, i64_add, i64_sub, i64_mul, i64_neg, cv_gi, cv_gw, cv_ga, cv_gl, cv_pi, cv_pw, cv_pa, cv_pl, zf_S, zf_i, zf_l, mz1, mz2, mz3, mz4, kn_haI, kn_haJ, kn_haQ, kn_gaI, kn_gaJ, kn_gaQ, kn_hoA, kn_hlen, kn_hfI, kn_hfJ, kn_hfR, kn_hfN, kn_hoI, kn_hoJ, kn_hoR, kn_hoN, kn_hoC, kn_hoP, kn_paI, kn_paJ, kn_paQ, kn_hpF, kuI_ha, kuI_ga, kuI_pa, kuI_hA, kuI_ln, kuB_ha, kuB_ga, kuB_pa, kuB_hA, kuB_ln, kuJ_ha, kuJ_ga, kuJ_pa, kuJ_hA, kuJ_ln, kuQ_ha, kuQ_ga, kuQ_pa, kuQ_hA, kuQ_ln, kuO_fI, kuO_fJ, kuO_fR, kuO_fN, kuO_oI, kuO_oJ, kuO_oR, kuO_oN, kuO_oC, kuO_oP, kuO_pF, kvI_s, kvJ_s, kvR_s, kvN_s, kvN_0, kvN_v, kpI_s, kpJ_s, kpR_s, kpN_s, kpN_0, kpN_v, List.getElem?_cons_zero, List.getElem?_cons_succ, List.set_cons_zero, List.set_cons_succ, List.length_cons, List.length_nil, forall_eq, exists_eq_left', Option.some.injEq, true_and, and_true, reduceIte, Nat.reduceEqDiff, Nat.reduceAdd, Nat.reduceLT, hup_hup, hup_at, eq_self, if_true, if_false, implies_true, true_implies, false_implies, not_true_eq_false, not_false_eq_true, or_true, true_or, i32_10, i32_01, kI_new, kB_new, kJ_new, kI_new2, kB_new2, kJ_new2, kQ_new, kO_new, zkd, zijd, zip1, zip, zim1, i32_natN, ziL, zi_0, zi_1, c1]
      rw [i32_div (by omega) (by omega) (by omega) (by omega)]
      try simp only [zl32, zl64, i32_add, i32_sub, i32_mul, i32_neg, i64_add, i64_sub, i64_mul, i64_neg, cv_gi, cv_gw, cv_ga, cv_gl, cv_pi, cv_pw, cv_pa, cv_pl, zf_S, zf_i, zf_l, mz1, mz2, mz3, mz4]
      rw [i32_eq (by omega) (by omega) (by omega) (by omega), hz]
      refine ⟨fun e => ?_, fun e => ?_⟩
      · rw [if_pos e] at hrec
        have : zup μ k (tt : Int) = μ := by
          funext q
          unfold zup
          by_cases c : q = k
          · rw [if_pos c, c, hμ]
          · rw [if_neg c]
        rw [this] at hrec
        exact hrec
      · rw [if_neg e] at hrec
        try simp (disch := first | assumption | omega) only [zl32, zl64, i32_add, i32_sub, i32_mul, i32_neg, i64_add, i64_sub, i64_mul, i64_neg, cv_gi, cv_gw, cv_ga, cv_gl, cv_pi, cv_pw, cv_pa, cv_pl, zf_S, zf_i, zf_l, mz1, mz2, mz3, mz4, kn_haI, kn_haJ, kn_haQ, kn_gaI, kn_gaJ, kn_gaQ, kn_hoA, kn_hlen, kn_hfI, kn_hfJ, kn_hfR, kn_hfN, kn_hoI, kn_hoJ, kn_hoR, kn_hoN, kn_hoC, kn_hoP, kn_paI, kn_paJ, kn_paQ, kn_hpF, kuI_ha, kuI_ga, kuI_pa, kuI_hA, kuI_ln, kuB_ha, kuB_ga, kuB_pa, kuB_hA, kuB_ln, kuJ_ha, kuJ_ga, kuJ_pa, kuJ_hA, kuJ_ln, kuQ_ha, kuQ_ga, kuQ_pa, kuQ_hA, kuQ_ln, kuO_fI, kuO_fJ, kuO_fR, kuO_fN, kuO_oI, kuO_oJ, kuO_oR, kuO_oN, kuO_oC, kuO_oP, kuO_pF, kvI_s, kvJ_s, kvR_s, kvN_s, kvN_0, kvN_v, kpI_s, kpJ_s, kpR_s, kpN_s, kpN_0, kpN_v, List.getElem?_cons_zero, List.getElem?_cons_succ, List.set_cons_zero, List.set_cons_succ, List.length_cons, List.length_nil, forall_eq, exists_eq_left', Option.some.injEq, true_and, and_true, reduceIte, Nat.reduceEqDiff, Nat.reduceAdd, Nat.reduceLT, hup_hup, hup_at, eq_self, if_true, if_false, implies_true, true_implies, false_implies, not_true_eq_false, not_false_eq_true, or_true, true_or, i32_10, i32_01, kI_new, kB_new, kJ_new, kI_new2, kB_new2, kJ_new2, kQ_new, kO_new, zkd, zijd, zip1, zip, zim1, i32_natN, ziL, zi_0, zi_1, kO_fI oL1', kO_fJ oL1', kO_fR oL1', kO_fN oL1', kO_oI oL1', kO_oJ oL1', kO_oR oL1', kO_oN oL1', kO_oC oL1', kO_oP oL1', kO_pF oL1', kO_fI oL1, kO_fJ oL1, kO_fR oL1, kO_fN oL1, kO_oI oL1, kO_oJ oL1, kO_oR oL1, kO_oN oL1, kO_oC oL1, kO_oP oL1, kO_pF oL1]
        refine kC_worthOf hWS hv k hk1 hk2 _ ?_
        rw [hcd]
        try simp (disch := first | assumption | omega) only [zl32, zl64, i32_add, i32_sub, i32_mul, i32_neg, i64_add, i64_sub, i64_mul, i64_neg, cv_gi, cv_gw, cv_ga, cv_gl, cv_pi, cv_pw, cv_pa, cv_pl, zf_S, zf_i, zf_l, mz1, mz2, mz3, mz4, kn_haI, kn_haJ, kn_haQ, kn_gaI, kn_gaJ, kn_gaQ, kn_hoA, kn_hlen, kn_hfI, kn_hfJ, kn_hfR, kn_hfN, kn_hoI, kn_hoJ, kn_hoR, kn_hoN, kn_hoC, kn_hoP, kn_paI, kn_paJ, kn_paQ, kn_hpF, kuI_ha, kuI_ga, kuI_pa, kuI_hA, kuI_ln, kuB_ha, kuB_ga, kuB_pa, kuB_hA, kuB_ln, kuJ_ha, kuJ_ga, kuJ_pa, kuJ_hA, kuJ_ln, kuQ_ha, kuQ_ga, kuQ_pa, kuQ_hA, kuQ_ln, kuO_fI, kuO_fJ, kuO_fR, kuO_fN, kuO_oI, kuO_oJ, kuO_oR, kuO_oN, kuO_oC, kuO_oP, kuO_pF, kvI_s, kvJ_s, kvR_s, kvN_s, kvN_0, kvN_v, kpI_s, kpJ_s, kpR_s, kpN_s, kpN_0, kpN_v, List.getElem?_cons_zero, List.getElem?_cons_succ, List.set_cons_zero, List.set_cons_succ, List.length_cons, List.length_nil, forall_eq, exists_eq_left', Option.some.injEq, true_and, and_true, reduceIte, Nat.reduceEqDiff, Nat.reduceAdd, Nat.reduceLT, hup_hup, hup_at, eq_self, if_true, if_false, implies_true, true_implies, false_implies, not_true_eq_false, not_false_eq_true, or_true, true_or, i32_10, i32_01, kI_new, kB_new, kJ_new, kI_new2, kB_new2, kJ_new2, kQ_new, kO_new, zkd, zijd, zip1, zip, zim1, i32_natN, ziL, zi_0, zi_1, kO_fI ox, kO_fJ ox, kO_fR ox, kO_fN ox, kO_oI ox, kO_oJ ox, kO_oR ox, kO_oN ox, kO_oC ox, kO_oP ox, kO_pF ox, kI_ha it, kI_ga it, kI_pa it, kI_hA it, kI_ln it]
        repeat' (first | (exfalso; omega) | (with_reducible refine zb_in ?_ ?_ ?_ ?_; omega; omega; omega) | (with_reducible refine zb_le ?_ ?_ ?_ ?_ (fun _ => ?_) (fun _ => ?_); omega; omega; omega; omega) | (with_reducible refine zb_lt ?_ ?_ ?_ ?_ (fun _ => ?_) (fun _ => ?_); omega; omega; omega; omega) | (with_reducible refine zb_eq ?_ ?_ ?_ ?_ (fun _ => ?_) (fun _ => ?_); omega; omega; omega; omega) | (with_reducible refine zb_leL ?_ ?_ ?_ ?_ (fun _ => ?_) (fun _ => ?_); omega; omega; omega; omega) | (with_reducible refine zb_ltL ?_ ?_ ?_ ?_ (fun _ => ?_) (fun _ => ?_); omega; omega; omega; omega) | (with_reducible refine zb_eqL ?_ ?_ ?_ ?_ (fun _ => ?_) (fun _ => ?_); omega; omega; omega; omega) | (with_reducible refine zb_nz ?_ ?_ ?_ ?_; omega; omega; omega) | (with_reducible refine zb_nzL ?_ ?_ ?_ ?_; omega; omega; omega) | with_reducible refine zb_ite ?_ | with_reducible refine zb_iteL ?_ | ((with_reducible intro y hy); subst hy; try simp only [zl32, zl64, i32_add, i32_sub, i32_mul, i32_neg, i64_add, i64_sub, i64_mul, i64_neg, cv_gi, cv_gw, cv_ga, cv_gl, cv_pi, cv_pw, cv_pa, cv_pl, zf_S, zf_i, zf_l, mz1, mz2, mz3, mz4, zr_ii, zr_iw, zr_ia, zr_il, zr_wi, zr_ww, zr_wa, zr_wl, zr_ai, zr_aw, zr_aa, zr_al, zr_li, zr_lw, zr_la, zr_ll, zw_ii, zw_ww, zw_aa, zw_ll, reduceIte, Nat.reduceEqDiff, if_true, if_false]) | with_reducible refine zb_o1 ?_ | with_reducible refine zb_o2 ?_ | with_reducible refine zb_o3 ?_ | with_reducible refine zb_o4 ?_ | with_reducible refine zb_tr ?_ | exact trivial | with_reducible refine zb_T ?_ | with_reducible refine zb_sp ?_ ?_)
        try rw [kSt_t' ntx]
        have e1 : (n0 - tt * zpS pa k) * (c : Int) - zpS pa k * (c : Int) = (n0 - ((tt + 1 : Nat) : Int) * zpS pa k) * (c : Int) := by
          rw [← Int.sub_mul, show ((tt + 1 : Nat) : Int) * zpS pa k = tt * zpS pa k + zpS pa k from by rw [show ((tt + 1 : Nat) : Int) = (tt : Int) + 1 from by omega, Int.add_mul, Int.one_mul], Int.sub_sub]
        rw [e1, hμ]
        refine ih (tt + 1) (zup μ k ((tt : Int) + 1)) (by omega) ?_ (by rw [zup_at]; omega) ?_
        · obtain ⟨q, a, b, cc⟩ := hex
          refine ⟨q, ?_, by omega, cc⟩
          by_cases h : q = tt
          · rw [h] at cc
            exact absurd cc e
          · omega
        · have e2 : ∀ z : Int, zup (zup μ k ((tt : Int) + 1)) k z = zup μ k z := by
            intro z
            funext q
            unfold zup
            by_cases c : q = k
            · rw [if_pos c, if_pos c]
            · rw [if_neg c, if_neg c, if_neg c]
          rw [e2]
          exact hrec
  have L19 : ∀ (k : Nat), k < zpL pa → ∀ (kc nc : Nat), wX6_ofValue_l19 mc ms Q kc nc (w (zpL pa)) x (k + 1) (kSt S x t (fun q => if k < q ∧ q < zpL pa then (zft (zvn pa v (zpL pa - 1 - q)) (zpS pa q) (zpR pa q) : Int) else 0) 1) (i32 (zvn pa v (zpL pa - 1 - k) * ((zpD pa (zpL pa) / zpD pa (k + 1) : Nat) : Int))) (i32 k) := by
    intro k
    induction k with
    | zero =>
      intro hk kc nc
      have hn := zvn_bd hv hw h1 h2 (zpL pa - 1 - 0) (by omega)
      have hD11 : zpD pa 1 = 1 := zD_1 _
      have hWS := hW.G (hG (fun q => if 0 < q ∧ q < zpL pa then (zft (zvn pa v (zpL pa - 1 - q)) (zpS pa q) (zpR pa q) : Int) else 0))
      obtain ⟨rootL', mfL', nuL', kaL', woL', ptL', slL', fiL', ixL', oL', _, _⟩ := hWS.1 (zpL pa) hv.1 (Nat.le_refl _)
      have oL1' := oL'.1
      have ox : kSt S x t (fun q => if 0 < q ∧ q < zpL pa then (zft (zvn pa v (zpL pa - 1 - q)) (zpS pa q) (zpR pa q) : Int) else 0) 1 x = some (kMo t 1) := kSt_x
      have it := kSt_t (S := S) (r := 1) (μ := fun q => if 0 < q ∧ q < zpL pa then (zft (zvn pa v (zpL pa - 1 - q)) (zpS pa q) (zpR pa q) : Int) else 0) ntx
      have c1 : ¬ i32 (zpD pa (zpL pa) : Int) = i32 0 := fun e => by rw [i32_eq (by omega) (by omega) (by omega) (by omega)] at e; omega
      rw [Nat.zero_add, hD11, Nat.div_one]
      have hlb : -900000 ≤ zvn pa v (zpL pa - 1 - 0) * (zpD pa (zpL pa) : Int) ∧ zvn pa v (zpL pa - 1 - 0) * (zpD pa (zpL pa) : Int) ≤ 2000000 := by
        have hl5 : ((zpL pa - 1 - 0 : Nat) : Int) ≤ 5 := by omega
        have : zpD pa (zpL pa) = 1 ∨ zpD pa (zpL pa) = 2 ∨ zpD pa (zpL pa) = 3 ∨ zpD pa (zpL pa) = 4 := by omega
        rcases this with e | e | e | e <;> rw [e] <;> omega
      rw [wX6_ofValue_l19]
      try simp (disch := first | assumption | omega) only [zl32, zl64, i32_add, i32_sub, i32_mul, i32_neg, i64_add, i64_sub, i64_mul, i64_neg, cv_gi, cv_gw, cv_ga, cv_gl, cv_pi, cv_pw, cv_pa, cv_pl, zf_S, zf_i, zf_l, mz1, mz2, mz3, mz4, kn_haI, kn_haJ, kn_haQ, kn_gaI, kn_gaJ, kn_gaQ, kn_hoA, kn_hlen, kn_hfI, kn_hfJ, kn_hfR, kn_hfN, kn_hoI, kn_hoJ, kn_hoR, kn_hoN, kn_hoC, kn_hoP, kn_paI, kn_paJ, kn_paQ, kn_hpF, kuI_ha, kuI_ga, kuI_pa, kuI_hA, kuI_ln, kuB_ha, kuB_ga, kuB_pa, kuB_hA, kuB_ln, kuJ_ha, kuJ_ga, kuJ_pa, kuJ_hA, kuJ_ln, kuQ_ha, kuQ_ga, kuQ_pa, kuQ_hA, kuQ_ln, kuO_fI, kuO_fJ, kuO_fR, kuO_fN, kuO_oI, kuO_oJ, kuO_oR, kuO_oN, kuO_oC, kuO_oP, kuO_pF, kvI_s, kvJ_s, kvR_s, kvN_s, kvN_0, kvN_v, kpI_s, kpJ_s, kpR_s, kpN_s, kpN_0, kpN_v, List.getElem?_cons_zero, List.getElem?_cons_succ, List.set_cons_zero, List.set_cons_succ, List.length_cons, List.length_nil, forall_eq, exists_eq_left', Option.some.injEq, true_and, and_true, reduceIte, Nat.reduceEqDiff, Nat.reduceAdd, Nat.reduceLT, hup_hup, hup_at, eq_self, if_true, if_false, implies_true, true_implies, false_implies, not_true_eq_false, not_false_eq_true, or_true, true_or, i32_10, i32_01, kI_new, kB_new, kJ_new, kI_new2, kB_new2, kJ_new2, kQ_new, kO_new, zkd, zijd, zip1, zip, zim1, i32_natN, ziL, zi_0, zi_1, kO_fI ox, kO_fJ ox, kO_fR ox, kO_fN ox, kO_oI ox, kO_oJ ox, kO_oR ox, kO_oN ox, kO_oC ox, kO_oP ox, kO_pF ox, kI_ha it, kI_ga it, kI_pa it, kI_hA it, kI_ln it, kO_fI oL1', kO_fJ oL1', kO_fR oL1', kO_fN oL1', kO_oI oL1', kO_oJ oL1', kO_oR oL1', kO_oN oL1', kO_oC oL1', kO_oP oL1', kO_pF oL1', kO_fI oL1, kO_fJ oL1, kO_fR oL1, kO_fN oL1, kO_oI oL1, kO_oJ oL1, kO_oR oL1, kO_oN oL1, kO_oC oL1, kO_oP oL1, kO_pF oL1, c1]
      repeat' (first | (exfalso; omega) | (with_reducible refine zb_in ?_ ?_ ?_ ?_; omega; omega; omega) | (with_reducible refine zb_le ?_ ?_ ?_ ?_ (fun _ => ?_) (fun _ => ?_); omega; omega; omega; omega) | (with_reducible refine zb_lt ?_ ?_ ?_ ?_ (fun _ => ?_) (fun _ => ?_); omega; omega; omega; omega) | (with_reducible refine zb_eq ?_ ?_ ?_ ?_ (fun _ => ?_) (fun _ => ?_); omega; omega; omega; omega) | (with_reducible refine zb_leL ?_ ?_ ?_ ?_ (fun _ => ?_) (fun _ => ?_); omega; omega; omega; omega) | (with_reducible refine zb_ltL ?_ ?_ ?_ ?_ (fun _ => ?_) (fun _ => ?_); omega; omega; omega; omega) | (with_reducible refine zb_eqL ?_ ?_ ?_ ?_ (fun _ => ?_) (fun _ => ?_); omega; omega; omega; omega) | (with_reducible refine zb_nz ?_ ?_ ?_ ?_; omega; omega; omega) | (with_reducible refine zb_nzL ?_ ?_ ?_ ?_; omega; omega; omega) | with_reducible refine zb_ite ?_ | with_reducible refine zb_iteL ?_ | ((with_reducible intro y hy); subst hy; try simp only [zl32, zl64, i32_add, i32_sub, i32_mul, i32_neg, i64_add, i64_sub, i64_mul, i64_neg, cv_gi, cv_gw, cv_ga, cv_gl, cv_pi, cv_pw, cv_pa, cv_pl, zf_S, zf_i, zf_l, mz1, mz2, mz3, mz4, zr_ii, zr_iw, zr_ia, zr_il, zr_wi, zr_ww, zr_wa, zr_wl, zr_ai, zr_aw, zr_aa, zr_al, zr_li, zr_lw, zr_la, zr_ll, zw_ii, zw_ww, zw_aa, zw_ll, reduceIte, Nat.reduceEqDiff, if_true, if_false]) | with_reducible refine zb_o1 ?_ | with_reducible refine zb_o2 ?_ | with_reducible refine zb_o3 ?_ | with_reducible refine zb_o4 ?_ | with_reducible refine zb_tr ?_ | exact trivial | with_reducible refine zb_T ?_ | with_reducible refine zb_sp ?_ ?_)
      rw [i32_div (by omega) (by omega) (by omega) (by omega), Int.mul_tdiv_cancel _ (by omega)]
      try simp (disch := first | assumption | omega) only [zl32, zl64, i32_add, i32_sub, i32_mul, i32_neg, i64_add, i64_sub, i64_mul, i64_neg, cv_gi, cv_gw, cv_ga, cv_gl, cv_pi, cv_pw, cv_pa, cv_pl, zf_S, zf_i, zf_l, mz1, mz2, mz3, mz4, kn_haI, kn_haJ, kn_haQ, kn_gaI, kn_gaJ, kn_gaQ, kn_hoA, kn_hlen, kn_hfI, kn_hfJ, kn_hfR, kn_hfN, kn_hoI, kn_hoJ, kn_hoR, kn_hoN, kn_hoC, kn_hoP, kn_paI, kn_paJ, kn_paQ, kn_hpF, kuI_ha, kuI_ga, kuI_pa, kuI_hA, kuI_ln, kuB_ha, kuB_ga, kuB_pa, kuB_hA, kuB_ln, kuJ_ha, kuJ_ga, kuJ_pa, kuJ_hA, kuJ_ln, kuQ_ha, kuQ_ga, kuQ_pa, kuQ_hA, kuQ_ln, kuO_fI, kuO_fJ, kuO_fR, kuO_fN, kuO_oI, kuO_oJ, kuO_oR, kuO_oN, kuO_oC, kuO_oP, kuO_pF, kvI_s, kvJ_s, kvR_s, kvN_s, kvN_0, kvN_v, kpI_s, kpJ_s, kpR_s, kpN_s, kpN_0, kpN_v, List.getElem?_cons_zero, List.getElem?_cons_succ, List.set_cons_zero, List.set_cons_succ, List.length_cons, List.length_nil, forall_eq, exists_eq_left', Option.some.injEq, true_and, and_true, reduceIte, Nat.reduceEqDiff, Nat.reduceAdd, Nat.reduceLT, hup_hup, hup_at, eq_self, if_true, if_false, implies_true, true_implies, false_implies, not_true_eq_false, not_false_eq_true, or_true, true_or, i32_10, i32_01, kI_new, kB_new, kJ_new, kI_new2, kB_new2, kJ_new2, kQ_new, kO_new, zkd, zijd, zip1, zip, zim1, i32_natN, ziL, zi_0, zi_1, kI_ha it, kI_ga it, kI_pa it, kI_hA it, kI_ln it]
      try rw [kSt_t' ntx]
      have e3 : zup (fun q => if 0 < q ∧ q < zpL pa then (zft (zvn pa v (zpL pa - 1 - q)) (zpS pa q) (zpR pa q) : Int) else 0) 0 (zvn pa v (zpL pa - 1 - 0)) = zvm pa v := by
        funext q
        unfold zup zvm
        dsimp only
        by_cases c : q = 0
        · rw [if_pos c, if_pos c, Nat.sub_zero]
        · rw [if_neg c, if_neg c]
          by_cases c2 : q < zpL pa
          · rw [if_pos ⟨by omega, c2⟩, if_pos c2]
          · rw [if_neg (fun h => c2 h.2), if_neg c2]
      rw [e3]
      exact q x t hx htS nxt
    | succ k ih =>
      intro hk kc nc
      have hn := zvn_bd hv hw h1 h2 (zpL pa - 1 - (k + 1)) (by omega)
      have hl5 : ((zpL pa - 1 - (k + 1) : Nat) : Int) ≤ 5 := by omega
      obtain ⟨em, ec⟩ := zpD_mul hv (k := k + 1) (by omega) hk
      have hDk := (hv.D (k := k + 1) (by omega) (by omega))
      have hR := hv.R (k := k + 1) (by omega) hk
      have hWS := hW.G (hG (fun q => if k + 1 < q ∧ q < zpL pa then (zft (zvn pa v (zpL pa - 1 - q)) (zpS pa q) (zpR pa q) : Int) else 0))
      obtain ⟨rootL', mfL', nuL', kaL', woL', ptL', slL', fiL', ixL', oL', _, _⟩ := hWS.1 (zpL pa) hv.1 (Nat.le_refl _)
      have oL1' := oL'.1
      obtain ⟨rootK', mfK', nuK', kaK', woK', ptK', slK', fiK', ixK', oK', _, _⟩ := hWS.1 (k + 1) (by omega) (by omega)
      have oK1' := oK'.1
      rw [wX6_ofValue_l19]
      try simp (disch := first | assumption | omega) only [zl32, zl64, i32_add, i32_sub, i32_mul, i32_neg, i64_add, i64_sub, i64_mul, i64_neg, cv_gi, cv_gw, cv_ga, cv_gl, cv_pi, cv_pw, cv_pa, cv_pl, zf_S, zf_i, zf_l, mz1, mz2, mz3, mz4, kn_haI, kn_haJ, kn_haQ, kn_gaI, kn_gaJ, kn_gaQ, kn_hoA, kn_hlen, kn_hfI, kn_hfJ, kn_hfR, kn_hfN, kn_hoI, kn_hoJ, kn_hoR, kn_hoN, kn_hoC, kn_hoP, kn_paI, kn_paJ, kn_paQ, kn_hpF, kuI_ha, kuI_ga, kuI_pa, kuI_hA, kuI_ln, kuB_ha, kuB_ga, kuB_pa, kuB_hA, kuB_ln, kuJ_ha, kuJ_ga, kuJ_pa, kuJ_hA, kuJ_ln, kuQ_ha, kuQ_ga, kuQ_pa, kuQ_hA, kuQ_ln, kuO_fI, kuO_fJ, kuO_fR, kuO_fN, kuO_oI, kuO_oJ, kuO_oR, kuO_oN, kuO_oC, kuO_oP, kuO_pF, kvI_s, kvJ_s, kvR_s, kvN_s, kvN_0, kvN_v, kpI_s, kpJ_s, kpR_s, kpN_s, kpN_0, kpN_v, List.getElem?_cons_zero, List.getElem?_cons_succ, List.set_cons_zero, List.set_cons_succ, List.length_cons, List.length_nil, forall_eq, exists_eq_left', Option.some.injEq, true_and, and_true, reduceIte, Nat.reduceEqDiff, Nat.reduceAdd, Nat.reduceLT, hup_hup, hup_at, eq_self, if_true, if_false, implies_true, true_implies, false_implies, not_true_eq_false, not_false_eq_true, or_true, true_or, i32_10, i32_01, kI_new, kB_new, kJ_new, kI_new2, kB_new2, kJ_new2, kQ_new, kO_new, zkd, zijd, zip1, zip, zim1, i32_natN, ziL, zi_0, zi_1, kO_fI oL1', kO_fJ oL1', kO_fR oL1', kO_fN oL1', kO_oI oL1', kO_oJ oL1', kO_oR oL1', kO_oN oL1', kO_oC oL1', kO_oP oL1', kO_pF oL1', kO_fI oL1, kO_fJ oL1, kO_fR oL1, kO_fN oL1, kO_oI oL1, kO_oJ oL1, kO_oR oL1, kO_oN oL1, kO_oC oL1, kO_oP oL1, kO_pF oL1]
      repeat' (first | (exfalso; omega) | (with_reducible refine zb_in ?_ ?_ ?_ ?_; omega; omega; omega) | (with_reducible refine zb_le ?_ ?_ ?_ ?_ (fun _ => ?_) (fun _ => ?_); omega; omega; omega; omega) | (with_reducible refine zb_lt ?_ ?_ ?_ ?_ (fun _ => ?_) (fun _ => ?_); omega; omega; omega; omega) | (with_reducible refine zb_eq ?_ ?_ ?_ ?_ (fun _ => ?_) (fun _ => ?_); omega; omega; omega; omega) | (with_reducible refine zb_leL ?_ ?_ ?_ ?_ (fun _ => ?_) (fun _ => ?_); omega; omega; omega; omega) | (with_reducible refine zb_ltL ?_ ?_ ?_ ?_ (fun _ => ?_) (fun _ => ?_); omega; omega; omega; omega) | (with_reducible refine zb_eqL ?_ ?_ ?_ ?_ (fun _ => ?_) (fun _ => ?_); omega; omega; omega; omega) | (with_reducible refine zb_nz ?_ ?_ ?_ ?_; omega; omega; omega) | (with_reducible refine zb_nzL ?_ ?_ ?_ ?_; omega; omega; omega) | with_reducible refine zb_ite ?_ | with_reducible refine zb_iteL ?_ | ((with_reducible intro y hy); subst hy; try simp only [zl32, zl64, i32_add, i32_sub, i32_mul, i32_neg, i64_add, i64_sub, i64_mul, i64_neg, cv_gi, cv_gw, cv_ga, cv_gl, cv_pi, cv_pw, cv_pa, cv_pl, zf_S, zf_i, zf_l, mz1, mz2, mz3, mz4, zr_ii, zr_iw, zr_ia, zr_il, zr_wi, zr_ww, zr_wa, zr_wl, zr_ai, zr_aw, zr_aa, zr_al, zr_li, zr_lw, zr_la, zr_ll, zw_ii, zw_ww, zw_aa, zw_ll, reduceIte, Nat.reduceEqDiff, if_true, if_false]) | with_reducible refine zb_o1 ?_ | with_reducible refine zb_o2 ?_ | with_reducible refine zb_o3 ?_ | with_reducible refine zb_o4 ?_ | with_reducible refine zb_tr ?_ | exact trivial | with_reducible refine zb_T ?_ | with_reducible refine zb_sp ?_ ?_)
      refine kC_at9 hWS hL6 (k + 1) (by omega) _ ?_ 8 (zpL pa) (by omega) (Nat.le_refl _) (by omega)
      have c1 : ¬ i32 (zpD pa (k + 1) : Int) = i32 0 := fun e => by rw [i32_eq (by omega) (by omega) (by omega) (by omega)] at e; omega
      try simp (disch := first | assumption | omega) only [zl32, zl64, i32_add, i32_sub, i32_mul, i32_neg, i64_add, i64_sub, i64_mul, i64_neg, cv_gi, cv_gw, cv_ga, cv_gl, cv_pi, cv_pw, cv_pa, cv_pl, zf_S, zf_i, zf_l, mz1, mz2, mz3, mz4, kn_haI, kn_haJ, kn_haQ, kn_gaI, kn_gaJ, kn_gaQ, kn_hoA, kn_hlen, kn_hfI, kn_hfJ, kn_hfR, kn_hfN, kn_hoI, kn_hoJ, kn_hoR, kn_hoN, kn_hoC, kn_hoP, kn_paI, kn_paJ, kn_paQ, kn_hpF, kuI_ha, kuI_ga, kuI_pa, kuI_hA, kuI_ln, kuB_ha, kuB_ga, kuB_pa, kuB_hA, kuB_ln, kuJ_ha, kuJ_ga, kuJ_pa, kuJ_hA, kuJ_ln, kuQ_ha, kuQ_ga, kuQ_pa, kuQ_hA, kuQ_ln, kuO_fI, kuO_fJ, kuO_fR, kuO_fN, kuO_oI, kuO_oJ, kuO_oR, kuO_oN, kuO_oC, kuO_oP, kuO_pF, kvI_s, kvJ_s, kvR_s, kvN_s, kvN_0, kvN_v, kpI_s, kpJ_s, kpR_s, kpN_s, kpN_0, kpN_v, List.getElem?_cons_zero, List.getElem?_cons_succ, List.set_cons_zero, List.set_cons_succ, List.length_cons, List.length_nil, forall_eq, exists_eq_left', Option.some.injEq, true_and, and_true, reduceIte, Nat.reduceEqDiff, Nat.reduceAdd, Nat.reduceLT, hup_hup, hup_at, eq_self, if_true, if_false, implies_true, true_implies, false_implies, not_true_eq_false, not_false_eq_true, or_true, true_or, i32_10, i32_01, kI_new, kB_new, kJ_new, kI_new2, kB_new2, kJ_new2, kQ_new, kO_new, zkd, zijd, zip1, zip, zim1, i32_natN, ziL, zi_0, zi_1, kO_fI oK1', kO_fJ oK1', kO_fR oK1', kO_fN oK1', kO_oI oK1', kO_oJ oK1', kO_oR oK1', kO_oN oK1', kO_oC oK1', kO_oP oK1', kO_pF oK1', c1]
      rw [i32_div (by omega) (by omega) (by omega) (by omega), ze_tdivn (by omega), show (zpD pa (zpL pa) : Int) / (zpD pa (k + 1) : Int) = ((zpD pa (zpL pa) / zpD pa (k + 1) : Nat) : Int) from (Int.natCast_ediv _ _).symm]
      have hft := zft_ok (hw (k + 1) (by omega) hk).1 (n := zvn pa v (zpL pa - 1 - (k + 1)))
      refine ⟨zpR pa (k + 1) + 1, ?_⟩
      have := L40 (k + 1) (by omega) hk (zvn pa v (zpL pa - 1 - (k + 1))) (by omega) (by omega) (fun z z4 z5 => wX6_ofValue_l19 mc ms Q kc nc (w (zpL pa)) x (k + 1) z z4 z5) kc nc (zpR pa (k + 1)) 0 (fun q => if k + 1 < q ∧ q < zpL pa then (zft (zvn pa v (zpL pa - 1 - q)) (zpS pa q) (zpR pa q) : Int) else 0) (by omega) ⟨zft (zvn pa v (zpL pa - 1 - (k + 1))) (zpS pa (k + 1)) (zpR pa (k + 1)), by omega, by omega, hft.2⟩ (by rw [if_neg (by omega)]; rfl) ?_
      · rw [show ((0 : Nat) : Int) * zpS pa (k + 1) = 0 from by rw [Int.natCast_zero, Int.zero_mul], Int.sub_zero] at this
        exact this
      · rw [show ((k + 1 : Nat) : Int) + -1 = (k : Int) from by omega]
        have ihk := ih (by omega) kc nc
        have e5 : zfnd (zvn pa v (zpL pa - 1 - (k + 1))) (zpS pa (k + 1)) (zpR pa (k + 1)) (zpR pa (k + 1)) 0 = zft (zvn pa v (zpL pa - 1 - (k + 1))) (zpS pa (k + 1)) (zpR pa (k + 1)) := rfl
        rw [e5]
        have e6 : zup (fun q => if k + 1 < q ∧ q < zpL pa then (zft (zvn pa v (zpL pa - 1 - q)) (zpS pa q) (zpR pa q) : Int) else 0) (k + 1) (zft (zvn pa v (zpL pa - 1 - (k + 1))) (zpS pa (k + 1)) (zpR pa (k + 1)) : Int) = fun q => if k < q ∧ q < zpL pa then (zft (zvn pa v (zpL pa - 1 - q)) (zpS pa q) (zpR pa q) : Int) else 0 := by
          funext q
          unfold zup
          dsimp only
          by_cases c : q = k + 1
          · rw [if_pos c, c, if_pos ⟨by omega, hk⟩]
          · rw [if_neg c]
            by_cases c2 : k < q ∧ q < zpL pa
            · rw [if_pos c2, if_pos ⟨by omega, c2.2⟩]
            · rw [if_neg c2, if_neg (fun h => c2 ⟨by omega, h.2⟩)]
        rw [e6]
        have e7 : (zvn pa v (zpL pa - 1 - (k + 1)) - (zft (zvn pa v (zpL pa - 1 - (k + 1))) (zpS pa (k + 1)) (zpR pa (k + 1)) : Int) * zpS pa (k + 1)) * ((zpD pa (zpL pa) / zpD pa (k + 1 + 1) : Nat) : Int) = zvn pa v (zpL pa - 1 - k) * ((zpD pa (zpL pa) / zpD pa (k + 1) : Nat) : Int) := by
          rw [em, Int.natCast_mul, show zpL pa - 1 - k = (zpL pa - 1 - (k + 1)) + 1 from by omega]
          conv => rhs; unfold zvn
          rw [show zpL pa - 1 - (zpL pa - 1 - (k + 1)) = k + 1 from by omega]
          have hd := Int.ediv_mul_cancel (Int.dvd_of_emod_eq_zero hft.2)
          rw [Int.mul_comm ((zpD pa (zpL pa) / zpD pa (k + 1 + 1) : Nat) : Int), ← Int.mul_assoc, hd]
        rw [e7]
        exact ihk
  have e8 := L19 (zpL pa - 1) (by omega) (1 + 1) (2 + 7)
  rw [show zpL pa - 1 - (zpL pa - 1) = 0 from by omega, show zpL pa - 1 + 1 = zpL pa from by omega, Nat.div_self (by omega)] at e8
  have e9 : (fun q => if zpL pa - 1 < q ∧ q < zpL pa then (zft (zvn pa v (zpL pa - 1 - q)) (zpS pa q) (zpR pa q) : Int) else 0) = fun _ => 0 := by
    funext q
    rw [if_neg (by omega)]
  rw [e9, show zvn pa v 0 * ((1 : Nat) : Int) = v from Int.mul_one v] at e8
  exact ⟨_, e8⟩
