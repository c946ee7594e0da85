/-! CLASS 19: heads: looks, the recursion -/
set_option maxRecDepth 100000
theorem kC_looks {S0 : hH} {A : Nat → Nat} {La : Nat → Prop} (hA : kInj A La) {p M : Int} {tr : Option Nat} (o00 : S0 (A 0) = some (kOb A p M tr)) (hp2 : 2 ≤ p) (hp7 : p ≤ 7) (hM : 1 < M) (hM2 : M < 536870912) {T P : Nat} {fa L1 L2 : Nat} {dg : Int} {m : Nat → Prop} (hm : ∀ q, kSc A q ∨ q = T ∨ q = P → m q) {w sd : Nat → Nat} {pa : zP} (hW : kWy m S0 w sd pa) (hv : zPv M pa) (hkm : zKm pa) (hs0 : kScr A S0) (nT : ∀ k, k < 90 → A k ≠ T) (nP : ∀ k, k < 90 → A k ≠ P) (hT0 : ∃ y, S0 T = some y) (hP0 : ∃ y, S0 P = some y) {a : Nat → Int} (ra : zred M 9 a) :
    ∀ l, l < zpL pa → ∀ (d b : Nat) (S : hH) (hd : Option Nat) (hv0 : Int) (rw_ mc ms : Nat) (Q : hH → Prop), l < d → kF (kMl A T P S0 6) S0 S → kScr A S → S T = some (kTo fa dg L1 L2 P hd hv0 (A 0)) → S P = some (kI 7 (zdgs pa (b * zpD pa (l + 1)))) → kBest S0 S M p pa a hd hv0 (zbs M p pa a (b * zpD pa (l + 1))) → S rw_ = some (kJ 9 (zB M pa a (zpL pa - 1 - l) b)) → ¬ kMl A T P S0 l rw_ → 2 * zpD pa (l + 1) ≤ mc → 9 * zpD pa (l + 1) ≤ ms →
    (∀ S1 hd' hv', kF (kMl A T P S0 l) S S1 → kScr A S1 → S1 T = some (kTo fa dg L1 L2 P hd' hv' (A 0)) → S1 P = some (kI 7 (zdgs pa (b * zpD pa (l + 1)))) → kBest S0 S1 M p pa a hd' hv' (zbs M p pa a ((b + 1) * zpD pa (l + 1))) → Q S1) →
    wX6_looks d mc ms S T (w (zpL pa)) rw_ (i32 l) P (i64 (zhs pa (b * zpD pa (l + 1)) (zpL pa - 1))) Q := by
  have hL6 := hv.2.1
  have hkpt : ∀ S, kF (kMl A T P S0 6) S0 S → ∀ q y, kc m S0 q y → kc m S q y := by
    intro S hF q y hq
    refine ⟨hF q y hq.1 ?_, hq.2⟩
    rintro ((h | h | ⟨r, i, h1, h2, h3, h⟩) | h | h | h)
    · exact hq.2 (hm q (Or.inl ⟨1, by omega, by omega, h⟩))
    · exact hq.2 (hm q (Or.inl ⟨2, by omega, by omega, h⟩))
    · exact hq.2 (hm q (Or.inl ⟨_, by omega, by omega, h⟩))
    · exact hq.2 (hm q (Or.inr (Or.inl h)))
    · exact hq.2 (hm q (Or.inr (Or.inr h)))
    · rw [hq.1] at h; cases h
  have hnone : ∀ k, k < 90 → (∃ y, S0 (A k) = some y) → ¬ S0 (A k) = none := by
    intro k _ h e
    obtain ⟨y, h⟩ := h
    rw [h] at e; cases e
  have hsc : ∀ S, kF (kMl A T P S0 6) S0 S → kScr A S → ∀ q y, S0 q = some y → (∃ y, S T = some y) → (∃ y, S P = some y) → ∃ y', S q = some y' := by
    intro S hF hS q y hq hT hP
    by_cases c : kMl A T P S0 6 q
    · rcases c with (h | h | ⟨r, i, h1, h2, h3, h⟩) | h | h | h
      · rw [h]; obtain ⟨g, e⟩ := hS.j 1 (by omega); exact ⟨_, e⟩
      · rw [h]; obtain ⟨g, e⟩ := hS.j 2 (by omega); exact ⟨_, e⟩
      · rw [h]; obtain ⟨g, e⟩ := hS.j (14 + 9 * r + i) (by omega); exact ⟨_, e⟩
      · rw [h]; exact hT
      · rw [h]; exact hP
      · rw [hq] at h; cases h
    · exact ⟨y, hF q y hq c⟩
  have ho0 : ∀ S, kF (kMl A T P S0 6) S0 S → S (A 0) = some (kOb A p M tr) := by
    intro S hF
    refine hF.at o00 ?_
    rintro ((h | h | ⟨r, i, h1, h2, h3, h⟩) | h | h | h)
    · exact hA.ne (by omega) (by omega) (by omega) h
    · exact hA.ne (by omega) (by omega) (by omega) h
    · exact hA.ne (by omega) (by omega) (by omega) h
    · exact nT 0 (by omega) h
    · exact nP 0 (by omega) h
    · rw [o00] at h; cases h
  intro l
  induction l with
  | zero =>
    intro hl d b S hd hv0 rw_ mc ms Q hld hF hS oT iP hB jr hrw hmc hms hq
    obtain ⟨d, rfl⟩ : ∃ d', d = d' + 1 := ⟨d - 1, by omega⟩
    have hD1 : zpD pa 1 = 1 := zD_1 _
    have eD : b * zpD pa (0 + 1) = b := by rw [Nat.zero_add, hD1, Nat.mul_one]
    have eD2 : (b + 1) * zpD pa (0 + 1) = b + 1 := by rw [Nat.zero_add, hD1, Nat.mul_one]
    simp only [eD, eD2] at iP hB hq ⊢
    rw [Nat.zero_add, hD1] at hmc hms
    have cr := zcf_red (pa := pa) (by omega : 0 < M) ra b
    have jr0 : zB M pa a (zpL pa - 1) b 0 = zcf M pa a b := rfl
    rw [Nat.sub_zero] at jr
    rw [wX6_looks]
    try simp (disch := first | assumption | omega) only [zl32, zl64, i32_add, i32_sub, i32_mul, i32_neg, i64_add, i64_sub, i64_mul, i64_neg, cv_gi, cv_gw, cv_ga, cv_gl, cv_pi, cv_pw, cv_pa, cv_pl, zf_S, zf_i, zf_l, mz1, mz2, mz3, mz4, kn_haI, kn_haJ, kn_haQ, kn_gaI, kn_gaJ, kn_gaQ, kn_hoA, kn_hlen, kn_hfI, kn_hfJ, kn_hfR, kn_hfN, kn_hoI, kn_hoJ, kn_hoR, kn_hoN, kn_hoC, kn_hoP, kn_paI, kn_paJ, kn_paQ, kn_hpF, kuI_ha, kuI_ga, kuI_pa, kuI_hA, kuI_ln, kuB_ha, kuB_ga, kuB_pa, kuB_hA, kuB_ln, kuJ_ha, kuJ_ga, kuJ_pa, kuJ_hA, kuJ_ln, kuQ_ha, kuQ_ga, kuQ_pa, kuQ_hA, kuQ_ln, kuO_fI, kuO_fJ, kuO_fR, kuO_fN, kuO_oI, kuO_oJ, kuO_oR, kuO_oN, kuO_oC, kuO_oP, kuO_pF, kvI_s, kvJ_s, kvR_s, kvN_s, kvN_0, kvN_v, kpI_s, kpJ_s, kpR_s, kpN_s, kpN_0, kpN_v, List.getElem?_cons_zero, List.getElem?_cons_succ, List.set_cons_zero, List.set_cons_succ, List.length_cons, List.length_nil, forall_eq, exists_eq_left', Option.some.injEq, true_and, and_true, reduceIte, Nat.reduceEqDiff, Nat.reduceAdd, Nat.reduceLT, hup_hup, hup_at, eq_self, if_true, if_false, implies_true, true_implies, false_implies, not_true_eq_false, not_false_eq_true, or_true, true_or, i32_10, i32_01, kI_new, kB_new, kJ_new, kI_new2, kB_new2, kJ_new2, kQ_new, kO_new, zkd, zijd, zip1, zip, zim1, i32_natN, ziL, zi_0, zi_1, kJ_ha jr, kJ_ga jr, kJ_pa jr, kJ_hA jr, kJ_ln jr, kO_fI oT, kO_fJ oT, kO_fR oT, kO_fN oT, kO_oI oT, kO_oJ oT, kO_oR oT, kO_oN oT, kO_oC oT, kO_oP oT, kO_pF oT, jr0]
    refine ⟨fun _ => ?_, fun e => absurd rfl e⟩
    repeat' (first | (exfalso; omega) | (with_reducible refine zb_in ?_ ?_ ?_ ?_; omega; omega; omega) | (with_reducible refine zb_le ?_ ?_ ?_ ?_ (fun _ => ?_) (fun _ => ?_); omega; omega; omega; omega) | (with_reducible refine zb_lt ?_ ?_ ?_ ?_ (fun _ => ?_) (fun _ => ?_); omega; omega; omega; omega) | (with_reducible refine zb_eq ?_ ?_ ?_ ?_ (fun _ => ?_) (fun _ => ?_); omega; omega; omega; omega) | (with_reducible refine zb_leL ?_ ?_ ?_ ?_ (fun _ => ?_) (fun _ => ?_); omega; omega; omega; omega) | (with_reducible refine zb_ltL ?_ ?_ ?_ ?_ (fun _ => ?_) (fun _ => ?_); omega; omega; omega; omega) | (with_reducible refine zb_eqL ?_ ?_ ?_ ?_ (fun _ => ?_) (fun _ => ?_); omega; omega; omega; omega) | (with_reducible refine zb_nz ?_ ?_ ?_ ?_; omega; omega; omega) | (with_reducible refine zb_nzL ?_ ?_ ?_ ?_; omega; omega; omega) | with_reducible refine zb_ite ?_ | with_reducible refine zb_iteL ?_ | ((with_reducible intro y hy); subst hy; try simp only [zl32, zl64, i32_add, i32_sub, i32_mul, i32_neg, i64_add, i64_sub, i64_mul, i64_neg, cv_gi, cv_gw, cv_ga, cv_gl, cv_pi, cv_pw, cv_pa, cv_pl, zf_S, zf_i, zf_l, mz1, mz2, mz3, mz4, zr_ii, zr_iw, zr_ia, zr_il, zr_wi, zr_ww, zr_wa, zr_wl, zr_ai, zr_aw, zr_aa, zr_al, zr_li, zr_lw, zr_la, zr_ll, zw_ii, zw_ww, zw_aa, zw_ll, reduceIte, Nat.reduceEqDiff, if_true, if_false]) | with_reducible refine zb_o1 ?_ | with_reducible refine zb_o2 ?_ | with_reducible refine zb_o3 ?_ | with_reducible refine zb_o4 ?_ | with_reducible refine zb_tr ?_ | exact trivial | with_reducible refine zb_T ?_ | with_reducible refine zb_sp ?_ ?_)
    · refine hq S hd hv0 (kF.refl _) hS oT iP ?_
      unfold zbs
      rw [if_pos (by assumption)]
      exact hB
    · refine ⟨2, 9, by omega, by omega, ?_⟩
      have hWS := hW.G (hkpt S hF)
      obtain ⟨root, mf, nu, ka, wo, pt, sl, fi, ix, oo, _, _⟩ := hWS.1 (zpL pa) hv.1 (Nat.le_refl _)
      have hzb := zhs_bd hv b (zpL pa - 1) (by have := hv.1; omega)
      refine kC_meets (S0 := S0) (ho0 S hF) hp2 hp7 oT iP hP0 (by omega) (by omega) oo.1 hv.2.2.2.1 hB (fun q y hq => hsc S hF hS q y hq ⟨_, oT⟩ ⟨_, iP⟩) hzb.1 (by omega) 2 9 (by omega) (by omega) _ (fun S1 hd' hv' hF1 e1 e2 => ?_)
      have hkeep : ∀ q y, S q = some y → q ≠ T → ¬ S0 q = none → S1 q = some y := fun q y h1 h2 h3 => hF1 q y h1 (by rintro (h | h) <;> contradiction)
      refine hq S1 hd' hv' ?_ ?_ e1 ?_ ?_
      · intro q y hq hmq
        refine hF1 q y hq ?_
        rintro (h | h)
        · exact hmq (Or.inr (Or.inl h))
        · exact hmq (Or.inr (Or.inr (Or.inr h)))
      · exact hS.keep (fun k h1 h2 y hy => hkeep _ _ hy (nT k (by omega)) (hnone k (by omega) (hs0.ex k h1 h2)))
      · refine hkeep _ _ iP (kne2 iP oT (by intro e; cases e)) ?_
        obtain ⟨y, hy⟩ := hP0
        intro e
        rw [hy] at e; cases e
      · unfold zbs
        rw [if_neg (by assumption)]
        exact e2
  | succ l ih =>
    intro hl d b S hd hv0 rw_ mc ms Q hld hF hS oT iP hB jr hrw hmc hms hq
    obtain ⟨d, rfl⟩ : ∃ d', d = d' + 1 := ⟨d - 1, by omega⟩
    have hD := hv.D (k := l + 1) (by omega) (by omega)
    have hR := hv.R (k := l + 1) (by omega) (by omega)
    have hDs := hv.Ds (k := l + 1) (by omega)
    have hDD := hv.D (k := l + 2) (by omega) (by omega)
    have hK := hkm (l + 1) (by omega) (by omega)
    have hred := hv.2.2.2.2.2 (l + 1) (by omega) (by omega)
    have rB := zB_red (pa := pa) (by omega : 0 < M) ra (zpL pa - 1 - (l + 1)) b
    have hWS := hW.G (hkpt S hF)
    obtain ⟨root, mf, nu, ka, wo, pt, sl, fi, ix, oo, jk, _⟩ := hWS.1 (l + 1) (by omega) (by omega)
    have oo1 := oo.1
    obtain ⟨rootL, mfL, nuL, kaL, woL, ptL, slL, fiL, ixL, oL, _, _⟩ := hWS.1 (zpL pa) hv.1 (Nat.le_refl _)
    have oL1 := oL.1
    have o0 := ho0 S hF
    have nka : ¬ kRm A (l + 1) ka := fun h => jk.2 (hm ka (Or.inl (h.sc (by omega))))
    have nrw : ∀ q y, S0 q = some y → kMl A T P S0 (l + 1) q → (q = A 1 ∨ q = A 2 ∨ ∃ r i, 1 ≤ r ∧ r ≤ l + 1 ∧ i < 9 ∧ q = A (14 + 9 * r + i)) ∨ q = T ∨ q = P := by
      intro q y hq h
      rcases h with h | h | h | h
      · exact Or.inl h
      · exact Or.inr (Or.inl h)
      · exact Or.inr (Or.inr h)
      · rw [hq] at h; cases h
    rw [wX6_looks]
    try simp (disch := first | assumption | omega) only [zl32, zl64, i32_add, i32_sub, i32_mul, i32_neg, i64_add, i64_sub, i64_mul, i64_neg, cv_gi, cv_gw, cv_ga, cv_gl, cv_pi, cv_pw, cv_pa, cv_pl, zf_S, zf_i, zf_l, mz1, mz2, mz3, mz4, kn_haI, kn_haJ, kn_haQ, kn_gaI, kn_gaJ, kn_gaQ, kn_hoA, kn_hlen, kn_hfI, kn_hfJ, kn_hfR, kn_hfN, kn_hoI, kn_hoJ, kn_hoR, kn_hoN, kn_hoC, kn_hoP, kn_paI, kn_paJ, kn_paQ, kn_hpF, kuI_ha, kuI_ga, kuI_pa, kuI_hA, kuI_ln, kuB_ha, kuB_ga, kuB_pa, kuB_hA, kuB_ln, kuJ_ha, kuJ_ga, kuJ_pa, kuJ_hA, kuJ_ln, kuQ_ha, kuQ_ga, kuQ_pa, kuQ_hA, kuQ_ln, kuO_fI, kuO_fJ, kuO_fR, kuO_fN, kuO_oI, kuO_oJ, kuO_oR, kuO_oN, kuO_oC, kuO_oP, kuO_pF, kvI_s, kvJ_s, kvR_s, kvN_s, kvN_0, kvN_v, kpI_s, kpJ_s, kpR_s, kpN_s, kpN_0, kpN_v, List.getElem?_cons_zero, List.getElem?_cons_succ, List.set_cons_zero, List.set_cons_succ, List.length_cons, List.length_nil, forall_eq, exists_eq_left', Option.some.injEq, true_and, and_true, reduceIte, Nat.reduceEqDiff, Nat.reduceAdd, Nat.reduceLT, hup_hup, hup_at, eq_self, if_true, if_false, implies_true, true_implies, false_implies, not_true_eq_false, not_false_eq_true, or_true, true_or, i32_10, i32_01, kI_new, kB_new, kJ_new, kI_new2, kB_new2, kJ_new2, kQ_new, kO_new, zkd, zijd, zip1, zip, zim1, i32_natN, ziL, zi_0, zi_1, kO_fI oT, kO_fJ oT, kO_fR oT, kO_fN oT, kO_oI oT, kO_oJ oT, kO_oR oT, kO_oN oT, kO_oC oT, kO_oP oT, kO_pF oT, kO_fI oL1, kO_fJ oL1, kO_fR oL1, kO_fN oL1, kO_oI oL1, kO_oJ oL1, kO_oR oL1, kO_oN oL1, kO_oC oL1, kO_oP oL1, kO_pF oL1]
    refine ⟨fun e => ?_, fun _ => ?_⟩
    · rw [i32_eq (by omega) (by omega) (by omega) (by omega)] at e
      omega
    refine kC_at9 hWS hL6 (l + 1) (by omega) _ ?_ 8 (zpL pa) (by omega) (Nat.le_refl _) (by omega)
    try simp (disch := first | assumption | omega) only [zl32, zl64, i32_add, i32_sub, i32_mul, i32_neg, i64_add, i64_sub, i64_mul, i64_neg, cv_gi, cv_gw, cv_ga, cv_gl, cv_pi, cv_pw, cv_pa, cv_pl, zf_S, zf_i, zf_l, mz1, mz2, mz3, mz4, kn_haI, kn_haJ, kn_haQ, kn_gaI, kn_gaJ, kn_gaQ, kn_hoA, kn_hlen, kn_hfI, kn_hfJ, kn_hfR, kn_hfN, kn_hoI, kn_hoJ, kn_hoR, kn_hoN, kn_hoC, kn_hoP, kn_paI, kn_paJ, kn_paQ, kn_hpF, kuI_ha, kuI_ga, kuI_pa, kuI_hA, kuI_ln, kuB_ha, kuB_ga, kuB_pa, kuB_hA, kuB_ln, kuJ_ha, kuJ_ga, kuJ_pa, kuJ_hA, kuJ_ln, kuQ_ha, kuQ_ga, kuQ_pa, kuQ_hA, kuQ_ln, kuO_fI, kuO_fJ, kuO_fR, kuO_fN, kuO_oI, kuO_oJ, kuO_oR, kuO_oN, kuO_oC, kuO_oP, kuO_pF, kvI_s, kvJ_s, kvR_s, kvN_s, kvN_0, kvN_v, kpI_s, kpJ_s, kpR_s, kpN_s, kpN_0, kpN_v, List.getElem?_cons_zero, List.getElem?_cons_succ, List.set_cons_zero, List.set_cons_succ, List.length_cons, List.length_nil, forall_eq, exists_eq_left', Option.some.injEq, true_and, and_true, reduceIte, Nat.reduceEqDiff, Nat.reduceAdd, Nat.reduceLT, hup_hup, hup_at, eq_self, if_true, if_false, implies_true, true_implies, false_implies, not_true_eq_false, not_false_eq_true, or_true, true_or, i32_10, i32_01, kI_new, kB_new, kJ_new, kI_new2, kB_new2, kJ_new2, kQ_new, kO_new, zkd, zijd, zip1, zip, zim1, i32_natN, ziL, zi_0, zi_1, kO_fI oo1, kO_fJ oo1, kO_fR oo1, kO_fN oo1, kO_oI oo1, kO_oJ oo1, kO_oR oo1, kO_oN oo1, kO_oC oo1, kO_oP oo1, kO_pF oo1, kO_fI o0, kO_fJ o0, kO_fR o0, kO_fN o0, kO_oI o0, kO_oJ o0, kO_oR o0, kO_oN o0, kO_oC o0, kO_oP o0, kO_pF o0]
    refine kC_expanded hA o0 hS jr jk.1 (l + 1) (by omega) nka (zpD pa (l + 1)) hK.1 hD.1 hK.2 hM hM2 hred rB _ (fun S1 hF1 hS1 hrows => ?_)
    have hrm : ∀ q, kRm A (l + 1) q → kMl A T P S0 (l + 1) q := by
      rintro q (h | h | ⟨i, hi, h⟩)
      · exact Or.inl (Or.inl h)
      · exact Or.inl (Or.inr (Or.inl h))
      · exact Or.inl (Or.inr (Or.inr ⟨l + 1, i, by omega, Nat.le_refl _, hi, h⟩))
    have hF01 : kF (kMl A T P S0 6) S0 S1 := hF.trans' (hF1.mono (fun q h => (hrm q h).mono (by omega)))
    have nrT : ¬ kRm A (l + 1) T := by
      rintro (h | h | ⟨i, hi, h⟩)
      · exact nT 1 (by omega) h.symm
      · exact nT 2 (by omega) h.symm
      · exact nT _ (by omega) h.symm
    have nrP : ¬ kRm A (l + 1) P := by
      rintro (h | h | ⟨i, hi, h⟩)
      · exact nP 1 (by omega) h.symm
      · exact nP 2 (by omega) h.symm
      · exact nP _ (by omega) h.symm
    have hBfr : ∀ S2 S3 hd2 hv2 B, kF (kRm A (l + 1)) S2 S3 → kBest S0 S2 M p pa a hd2 hv2 B → (∀ q, S0 q = none → ¬ kRm A (l + 1) q) → kBest S0 S3 M p pa a hd2 hv2 B := by
      intro S2 S3 hd2 hv2 B hF2 hB2 hn2
      rcases hB2 with h | ⟨h1, h2, h3, h, t, e1, e2, e3, e4, e5⟩
      · exact Or.inl h
      · exact Or.inr ⟨h1, h2, h3, h, t, e1, e2, e3, hF2.at e4 (hn2 h e2), hF2.at e5 (hn2 t e3)⟩
    have hn0 : ∀ q, S0 q = none → ¬ kRm A (l + 1) q := by
      rintro q hq (h | h | ⟨i, hi, h⟩)
      · obtain ⟨g, e⟩ := hs0.j 1 (by omega)
        rw [h, e] at hq; cases hq
      · obtain ⟨g, e⟩ := hs0.j 2 (by omega)
        rw [h, e] at hq; cases hq
      · obtain ⟨g, e⟩ := hs0.j (14 + 9 * (l + 1) + i) (by omega)
        rw [h, e] at hq; cases hq
    have hrowB : ∀ k, k < zpR pa (l + 1) → zpart M (zpK pa (l + 1)) (zpD pa (l + 1)) k (zB M pa a (zpL pa - 1 - (l + 1)) b) = zB M pa a (zpL pa - 1 - l) (b * zpR pa (l + 1) + k) := by
      intro k hk
      rw [show zpL pa - 1 - l = (zpL pa - 1 - (l + 1)) + 1 from by omega]
      conv => rhs; unfold zB
      rw [show zpL pa - 1 - (zpL pa - 1 - (l + 1)) = l + 1 from by omega]
      rw [Nat.add_comm (b * _), Nat.add_mul_mod_self_right, Nat.mod_eq_of_lt hk, Nat.add_mul_div_right _ _ (by omega), Nat.div_eq_of_lt hk, Nat.zero_add]
    obtain ⟨f7, q7, h7⟩ := hS1.2.2.2.1 (l + 1) (by omega)
    have q70 : S0 (A (7 + (l + 1))) = some (kQ 6 9 f7) := by
      obtain ⟨f7', q7', h7'⟩ := hs0.2.2.2.1 (l + 1) (by omega)
      have hx : ¬ kMl A T P S0 6 (A (7 + (l + 1))) := by
        rintro ((h | h | ⟨r, i, h1, h2, h3, h⟩) | h | h | h)
        · exact hA.ne (by omega) (by omega) (by omega) h
        · exact hA.ne (by omega) (by omega) (by omega) h
        · exact hA.ne (by omega) (by omega) (by omega) h
        · exact nT _ (by omega) h
        · exact nP _ (by omega) h
        · rw [q7'] at h; cases h
      have := hF01.at q7' hx
      rw [q7] at this
      cases this
      exact q7'
    have hZ : ∀ k, k ≤ zpR pa (l + 1) → (b * zpR pa (l + 1) + k) * zpD pa (l + 1) = b * zpD pa (l + 1 + 1) + k * zpD pa (l + 1) := by
      intro k _
      rw [hDs, Nat.add_mul, Nat.mul_assoc, Nat.mul_comm (zpR pa (l + 1))]
    have e00 : (b * zpR pa (l + 1) + 0) * zpD pa (l + 1) = b * zpD pa (l + 1 + 1) := by
      have := hZ 0 (by omega)
      rw [Nat.zero_mul] at this
      exact this
    have LL : ∀ n k : Nat, k + n = zpR pa (l + 1) → ∀ (S2 : hH) (kc nc : Nat) (hd2 : Option Nat) (hv2 : Int) (k' : Nat), k' < zpR pa (l + 1) → kF (kMl A T P S0 6) S0 S2 → kF (kMl A T P S0 (l + 1)) S S2 → kScr A S2 → S2 T = some (kTo fa dg L1 L2 P hd2 hv2 (A 0)) → S2 P = some (kI 7 (zdgs pa ((b * zpR pa (l + 1) + k') * zpD pa (l + 1)))) → kBest S0 S2 M p pa a hd2 hv2 (zbs M p pa a ((b * zpR pa (l + 1) + k) * zpD pa (l + 1))) → (∀ i, i < 9 → S2 (A (14 + 9 * (l + 1) + i)) = some (kJ 9 (zpart M (zpK pa (l + 1)) (zpD pa (l + 1)) i (zB M pa a (zpL pa - 1 - (l + 1)) b)))) → kc + n * (2 * zpD pa (l + 1)) ≤ mc → nc + n * (9 * zpD pa (l + 1)) ≤ ms →
        wX6_looks_l47 (wX6_looks d) mc ms Q T (w (zpL pa)) (i32 ((l + 1 : Nat) : Int)) P (i64 (zhs pa (b * zpD pa (l + 1 + 1)) (zpL pa - 1))) (A (7 + (l + 1))) (n + 1) kc nc S2 (i32 k) := by
      intro n
      induction n with
      | zero =>
        intro k hk S2 kc nc hd2 hv2 k' hk' hF2 hFS2 hS2 oT2 iP2 hB2 hrows2 hmc2 hms2
        have hWS2 := hW.G (hkpt S2 hF2)
        obtain ⟨b1, e1, f1, dg1, mo1, rs1, t1, r1, os, _, _⟩ := hWS2.2 (l + 1) (by omega) hl
        have os1 := os.1
        obtain ⟨rootL', mfL', nuL', kaL', woL', ptL', slL', fiL', ixL', oL', _, _⟩ := hWS2.1 (zpL pa) hv.1 (Nat.le_refl _)
        have oL1' := oL'.1
        rw [wX6_looks_l47]
        try simp (disch := first | assumption | omega) only [zl32, zl64, i32_add, i32_sub, i32_mul, i32_neg, i64_add, i64_sub, i64_mul, i64_neg, cv_gi, cv_gw, cv_ga, cv_gl, cv_pi, cv_pw, cv_pa, cv_pl, zf_S, zf_i, zf_l, mz1, mz2, mz3, mz4, kn_haI, kn_haJ, kn_haQ, kn_gaI, kn_gaJ, kn_gaQ, kn_hoA, kn_hlen, kn_hfI, kn_hfJ, kn_hfR, kn_hfN, kn_hoI, kn_hoJ, kn_hoR, kn_hoN, kn_hoC, kn_hoP, kn_paI, kn_paJ, kn_paQ, kn_hpF, kuI_ha, kuI_ga, kuI_pa, kuI_hA, kuI_ln, kuB_ha, kuB_ga, kuB_pa, kuB_hA, kuB_ln, kuJ_ha, kuJ_ga, kuJ_pa, kuJ_hA, kuJ_ln, kuQ_ha, kuQ_ga, kuQ_pa, kuQ_hA, kuQ_ln, kuO_fI, kuO_fJ, kuO_fR, kuO_fN, kuO_oI, kuO_oJ, kuO_oR, kuO_oN, kuO_oC, kuO_oP, kuO_pF, kvI_s, kvJ_s, kvR_s, kvN_s, kvN_0, kvN_v, kpI_s, kpJ_s, kpR_s, kpN_s, kpN_0, kpN_v, List.getElem?_cons_zero, List.getElem?_cons_succ, List.set_cons_zero, List.set_cons_succ, List.length_cons, List.length_nil, forall_eq, exists_eq_left', Option.some.injEq, true_and, and_true, reduceIte, Nat.reduceEqDiff, Nat.reduceAdd, Nat.reduceLT, hup_hup, hup_at, eq_self, if_true, if_false, implies_true, true_implies, false_implies, not_true_eq_false, not_false_eq_true, or_true, true_or, i32_10, i32_01, kI_new, kB_new, kJ_new, kI_new2, kB_new2, kJ_new2, kQ_new, kO_new, zkd, zijd, zip1, zip, zim1, i32_natN, ziL, zi_0, zi_1, kO_fI oL1', kO_fJ oL1', kO_fR oL1', kO_fN oL1', kO_oI oL1', kO_oJ oL1', kO_oR oL1', kO_oN oL1', kO_oC oL1', kO_oP oL1', kO_pF oL1']
        refine kC_behind hWS2 hL6 (l + 1) (by omega) _ ?_ 8 (zpL pa) hl (Nat.le_refl _) (by omega)
        try simp (disch := first | assumption | omega) only [zl32, zl64, i32_add, i32_sub, i32_mul, i32_neg, i64_add, i64_sub, i64_mul, i64_neg, cv_gi, cv_gw, cv_ga, cv_gl, cv_pi, cv_pw, cv_pa, cv_pl, zf_S, zf_i, zf_l, mz1, mz2, mz3, mz4, kn_haI, kn_haJ, kn_haQ, kn_gaI, kn_gaJ, kn_gaQ, kn_hoA, kn_hlen, kn_hfI, kn_hfJ, kn_hfR, kn_hfN, kn_hoI, kn_hoJ, kn_hoR, kn_hoN, kn_hoC, kn_hoP, kn_paI, kn_paJ, kn_paQ, kn_hpF, kuI_ha, kuI_ga, kuI_pa, kuI_hA, kuI_ln, kuB_ha, kuB_ga, kuB_pa, kuB_hA, kuB_ln, kuJ_ha, kuJ_ga, kuJ_pa, kuJ_hA, kuJ_ln, kuQ_ha, kuQ_ga, kuQ_pa, kuQ_hA, kuQ_ln, kuO_fI, kuO_fJ, kuO_fR, kuO_fN, kuO_oI, kuO_oJ, kuO_oR, kuO_oN, kuO_oC, kuO_oP, kuO_pF, kvI_s, kvJ_s, kvR_s, kvN_s, kvN_0, kvN_v, kpI_s, kpJ_s, kpR_s, kpN_s, kpN_0, kpN_v, List.getElem?_cons_zero, List.getElem?_cons_succ, List.set_cons_zero, List.set_cons_succ, List.length_cons, List.length_nil, forall_eq, exists_eq_left', Option.some.injEq, true_and, and_true, reduceIte, Nat.reduceEqDiff, Nat.reduceAdd, Nat.reduceLT, hup_hup, hup_at, eq_self, if_true, if_false, implies_true, true_implies, false_implies, not_true_eq_false, not_false_eq_true, or_true, true_or, i32_10, i32_01, kI_new, kB_new, kJ_new, kI_new2, kB_new2, kJ_new2, kQ_new, kO_new, zkd, zijd, zip1, zip, zim1, i32_natN, ziL, zi_0, zi_1, kO_fI os1, kO_fJ os1, kO_fR os1, kO_fN os1, kO_oI os1, kO_oJ os1, kO_oR os1, kO_oN os1, kO_oC os1, kO_oP os1, kO_pF os1, kI_ha iP2, kI_ga iP2, kI_pa iP2, kI_hA iP2, kI_ln iP2]
        repeat' (first | (exfalso; omega) | (with_reducible refine zb_in ?_ ?_ ?_ ?_; omega; omega; omega) | (with_reducible refine zb_le ?_ ?_ ?_ ?_ (fun _ => ?_) (fun _ => ?_); omega; omega; omega; omega) | (with_reducible refine zb_lt ?_ ?_ ?_ ?_ (fun _ => ?_) (fun _ => ?_); omega; omega; omega; omega) | (with_reducible refine zb_eq ?_ ?_ ?_ ?_ (fun _ => ?_) (fun _ => ?_); omega; omega; omega; omega) | (with_reducible refine zb_leL ?_ ?_ ?_ ?_ (fun _ => ?_) (fun _ => ?_); omega; omega; omega; omega) | (with_reducible refine zb_ltL ?_ ?_ ?_ ?_ (fun _ => ?_) (fun _ => ?_); omega; omega; omega; omega) | (with_reducible refine zb_eqL ?_ ?_ ?_ ?_ (fun _ => ?_) (fun _ => ?_); omega; omega; omega; omega) | (with_reducible refine zb_nz ?_ ?_ ?_ ?_; omega; omega; omega) | (with_reducible refine zb_nzL ?_ ?_ ?_ ?_; omega; omega; omega) | with_reducible refine zb_ite ?_ | with_reducible refine zb_iteL ?_ | ((with_reducible intro y hy); subst hy; try simp only [zl32, zl64, i32_add, i32_sub, i32_mul, i32_neg, i64_add, i64_sub, i64_mul, i64_neg, cv_gi, cv_gw, cv_ga, cv_gl, cv_pi, cv_pw, cv_pa, cv_pl, zf_S, zf_i, zf_l, mz1, mz2, mz3, mz4, zr_ii, zr_iw, zr_ia, zr_il, zr_wi, zr_ww, zr_wa, zr_wl, zr_ai, zr_aw, zr_aa, zr_al, zr_li, zr_lw, zr_la, zr_ll, zw_ii, zw_ww, zw_aa, zw_ll, reduceIte, Nat.reduceEqDiff, if_true, if_false]) | with_reducible refine zb_o1 ?_ | with_reducible refine zb_o2 ?_ | with_reducible refine zb_o3 ?_ | with_reducible refine zb_o4 ?_ | with_reducible refine zb_tr ?_ | exact trivial | with_reducible refine zb_T ?_ | with_reducible refine zb_sp ?_ ?_)
        refine hq _ hd2 hv2 ?_ ?_ ?_ ?_ ?_
        · exact hFS2.trans' (kF.up _ (Or.inr (Or.inr (Or.inl rfl))))
        · exact hS2.up _ nP
        · rw [hup_ne (kne2 oT2 iP2 (by intro e; cases e))]
          exact oT2
        · rw [hup_at]
          have := zdgs_st hv (l := l + 1) (by omega) hl b 0 k' (by omega) hk'
          rw [e00] at this
          rw [← this]
          rfl
        · have : (b * zpR pa (l + 1) + k) * zpD pa (l + 1) = (b + 1) * zpD pa (l + 1 + 1) := by
            rw [hZ k (by omega), Nat.add_mul, Nat.one_mul, show k = zpR pa (l + 1) from by omega, Nat.mul_comm (zpR pa (l + 1)), ← hDs]
          rw [← this]
          exact hB2.up hP0 _
      | succ n ihn =>
        intro k hk S2 kc nc hd2 hv2 k' hk' hF2 hFS2 hS2 oT2 iP2 hB2 hrows2 hmc2 hms2
        have hWS2 := hW.G (hkpt S2 hF2)
        obtain ⟨b1, e1, f1, dg1, mo1, rs1, t1, r1, os, _, _⟩ := hWS2.2 (l + 1) (by omega) hl
        have os1 := os.1
        obtain ⟨rootL', mfL', nuL', kaL', woL', ptL', slL', fiL', ixL', oL', _, _⟩ := hWS2.1 (zpL pa) hv.1 (Nat.le_refl _)
        have oL1' := oL'.1
        have hkR : k < zpR pa (l + 1) := by omega
        have nTP : T ≠ P := kne2 oT2 iP2 (by intro e; cases e)
        have nLP : w (zpL pa) ≠ P := kne2 oL1' iP2 (by intro e; cases e)
        have hx7 : ¬ kMl A T P S0 6 (A (7 + (l + 1))) := by
          rintro ((h | h | ⟨r, i, h1, h2, h3, h⟩) | h | h | h)
          · exact hA.ne (by omega) (by omega) (by omega) h
          · exact hA.ne (by omega) (by omega) (by omega) h
          · exact hA.ne (by omega) (by omega) (by omega) h
          · exact nT _ (by omega) h
          · exact nP _ (by omega) h
          · rw [q70] at h; cases h
        have q72 := hF2.at q70 hx7
        have n7P : A (7 + (l + 1)) ≠ P := nP _ (by omega)
        have h7k := h7 k (by omega)
        rw [wX6_looks_l47]
        try simp (disch := first | assumption | omega) only [zl32, zl64, i32_add, i32_sub, i32_mul, i32_neg, i64_add, i64_sub, i64_mul, i64_neg, cv_gi, cv_gw, cv_ga, cv_gl, cv_pi, cv_pw, cv_pa, cv_pl, zf_S, zf_i, zf_l, mz1, mz2, mz3, mz4, kn_haI, kn_haJ, kn_haQ, kn_gaI, kn_gaJ, kn_gaQ, kn_hoA, kn_hlen, kn_hfI, kn_hfJ, kn_hfR, kn_hfN, kn_hoI, kn_hoJ, kn_hoR, kn_hoN, kn_hoC, kn_hoP, kn_paI, kn_paJ, kn_paQ, kn_hpF, kuI_ha, kuI_ga, kuI_pa, kuI_hA, kuI_ln, kuB_ha, kuB_ga, kuB_pa, kuB_hA, kuB_ln, kuJ_ha, kuJ_ga, kuJ_pa, kuJ_hA, kuJ_ln, kuQ_ha, kuQ_ga, kuQ_pa, kuQ_hA, kuQ_ln, kuO_fI, kuO_fJ, kuO_fR, kuO_fN, kuO_oI, kuO_oJ, kuO_oR, kuO_oN, kuO_oC, kuO_oP, kuO_pF, kvI_s, kvJ_s, kvR_s, kvN_s, kvN_0, kvN_v, kpI_s, kpJ_s, kpR_s, kpN_s, kpN_0, kpN_v, List.getElem?_cons_zero, List.getElem?_cons_succ, List.set_cons_zero, List.set_cons_succ, List.length_cons, List.length_nil, forall_eq, exists_eq_left', Option.some.injEq, true_and, and_true, reduceIte, Nat.reduceEqDiff, Nat.reduceAdd, Nat.reduceLT, hup_hup, hup_at, eq_self, if_true, if_false, implies_true, true_implies, false_implies, not_true_eq_false, not_false_eq_true, or_true, true_or, i32_10, i32_01, kI_new, kB_new, kJ_new, kI_new2, kB_new2, kJ_new2, kQ_new, kO_new, zkd, zijd, zip1, zip, zim1, i32_natN, ziL, zi_0, zi_1, kO_fI oL1', kO_fJ oL1', kO_fR oL1', kO_fN oL1', kO_oI oL1', kO_oJ oL1', kO_oR oL1', kO_oN oL1', kO_oC oL1', kO_oP oL1', kO_pF oL1']
        refine kC_behind hWS2 hL6 (l + 1) (by omega) _ ?_ 8 (zpL pa) hl (Nat.le_refl _) (by omega)
        try simp (disch := first | assumption | omega) only [zl32, zl64, i32_add, i32_sub, i32_mul, i32_neg, i64_add, i64_sub, i64_mul, i64_neg, cv_gi, cv_gw, cv_ga, cv_gl, cv_pi, cv_pw, cv_pa, cv_pl, zf_S, zf_i, zf_l, mz1, mz2, mz3, mz4, kn_haI, kn_haJ, kn_haQ, kn_gaI, kn_gaJ, kn_gaQ, kn_hoA, kn_hlen, kn_hfI, kn_hfJ, kn_hfR, kn_hfN, kn_hoI, kn_hoJ, kn_hoR, kn_hoN, kn_hoC, kn_hoP, kn_paI, kn_paJ, kn_paQ, kn_hpF, kuI_ha, kuI_ga, kuI_pa, kuI_hA, kuI_ln, kuB_ha, kuB_ga, kuB_pa, kuB_hA, kuB_ln, kuJ_ha, kuJ_ga, kuJ_pa, kuJ_hA, kuJ_ln, kuQ_ha, kuQ_ga, kuQ_pa, kuQ_hA, kuQ_ln, kuO_fI, kuO_fJ, kuO_fR, kuO_fN, kuO_oI, kuO_oJ, kuO_oR, kuO_oN, kuO_oC, kuO_oP, kuO_pF, kvI_s, kvJ_s, kvR_s, kvN_s, kvN_0, kvN_v, kpI_s, kpJ_s, kpR_s, kpN_s, kpN_0, kpN_v, List.getElem?_cons_zero, List.getElem?_cons_succ, List.set_cons_zero, List.set_cons_succ, List.length_cons, List.length_nil, forall_eq, exists_eq_left', Option.some.injEq, true_and, and_true, reduceIte, Nat.reduceEqDiff, Nat.reduceAdd, Nat.reduceLT, hup_hup, hup_at, eq_self, if_true, if_false, implies_true, true_implies, false_implies, not_true_eq_false, not_false_eq_true, or_true, true_or, i32_10, i32_01, kI_new, kB_new, kJ_new, kI_new2, kB_new2, kJ_new2, kQ_new, kO_new, zkd, zijd, zip1, zip, zim1, i32_natN, ziL, zi_0, zi_1, kO_fI os1, kO_fJ os1, kO_fR os1, kO_fN os1, kO_oI os1, kO_oJ os1, kO_oR os1, kO_oN os1, kO_oC os1, kO_oP os1, kO_pF os1, kI_ha iP2, kI_ga iP2, kI_pa iP2, kI_hA iP2, kI_ln iP2]
        repeat' (first | (exfalso; omega) | (with_reducible refine zb_in ?_ ?_ ?_ ?_; omega; omega; omega) | (with_reducible refine zb_le ?_ ?_ ?_ ?_ (fun _ => ?_) (fun _ => ?_); omega; omega; omega; omega) | (with_reducible refine zb_lt ?_ ?_ ?_ ?_ (fun _ => ?_) (fun _ => ?_); omega; omega; omega; omega) | (with_reducible refine zb_eq ?_ ?_ ?_ ?_ (fun _ => ?_) (fun _ => ?_); omega; omega; omega; omega) | (with_reducible refine zb_leL ?_ ?_ ?_ ?_ (fun _ => ?_) (fun _ => ?_); omega; omega; omega; omega) | (with_reducible refine zb_ltL ?_ ?_ ?_ ?_ (fun _ => ?_) (fun _ => ?_); omega; omega; omega; omega) | (with_reducible refine zb_eqL ?_ ?_ ?_ ?_ (fun _ => ?_) (fun _ => ?_); omega; omega; omega; omega) | (with_reducible refine zb_nz ?_ ?_ ?_ ?_; omega; omega; omega) | (with_reducible refine zb_nzL ?_ ?_ ?_ ?_; omega; omega; omega) | with_reducible refine zb_ite ?_ | with_reducible refine zb_iteL ?_ | ((with_reducible intro y hy); subst hy; try simp only [zl32, zl64, i32_add, i32_sub, i32_mul, i32_neg, i64_add, i64_sub, i64_mul, i64_neg, cv_gi, cv_gw, cv_ga, cv_gl, cv_pi, cv_pw, cv_pa, cv_pl, zf_S, zf_i, zf_l, mz1, mz2, mz3, mz4, zr_ii, zr_iw, zr_ia, zr_il, zr_wi, zr_ww, zr_wa, zr_wl, zr_ai, zr_aw, zr_aa, zr_al, zr_li, zr_lw, zr_la, zr_ll, zw_ii, zw_ww, zw_aa, zw_ll, reduceIte, Nat.reduceEqDiff, if_true, if_false]) | with_reducible refine zb_o1 ?_ | with_reducible refine zb_o2 ?_ | with_reducible refine zb_o3 ?_ | with_reducible refine zb_o4 ?_ | with_reducible refine zb_tr ?_ | exact trivial | with_reducible refine zb_T ?_ | with_reducible refine zb_sp ?_ ?_)
        try simp (disch := first | assumption | omega) only [zl32, zl64, i32_add, i32_sub, i32_mul, i32_neg, i64_add, i64_sub, i64_mul, i64_neg, cv_gi, cv_gw, cv_ga, cv_gl, cv_pi, cv_pw, cv_pa, cv_pl, zf_S, zf_i, zf_l, mz1, mz2, mz3, mz4, kn_haI, kn_haJ, kn_haQ, kn_gaI, kn_gaJ, kn_gaQ, kn_hoA, kn_hlen, kn_hfI, kn_hfJ, kn_hfR, kn_hfN, kn_hoI, kn_hoJ, kn_hoR, kn_hoN, kn_hoC, kn_hoP, kn_paI, kn_paJ, kn_paQ, kn_hpF, kuI_ha, kuI_ga, kuI_pa, kuI_hA, kuI_ln, kuB_ha, kuB_ga, kuB_pa, kuB_hA, kuB_ln, kuJ_ha, kuJ_ga, kuJ_pa, kuJ_hA, kuJ_ln, kuQ_ha, kuQ_ga, kuQ_pa, kuQ_hA, kuQ_ln, kuO_fI, kuO_fJ, kuO_fR, kuO_fN, kuO_oI, kuO_oJ, kuO_oR, kuO_oN, kuO_oC, kuO_oP, kuO_pF, kvI_s, kvJ_s, kvR_s, kvN_s, kvN_0, kvN_v, kpI_s, kpJ_s, kpR_s, kpN_s, kpN_0, kpN_v, List.getElem?_cons_zero, List.getElem?_cons_succ, List.set_cons_zero, List.set_cons_succ, List.length_cons, List.length_nil, forall_eq, exists_eq_left', Option.some.injEq, true_and, and_true, reduceIte, Nat.reduceEqDiff, Nat.reduceAdd, Nat.reduceLT, hup_hup, hup_at, eq_self, if_true, if_false, implies_true, true_implies, false_implies, not_true_eq_false, not_false_eq_true, or_true, true_or, i32_10, i32_01, kI_new, kB_new, kJ_new, kI_new2, kB_new2, kJ_new2, kQ_new, kO_new, zkd, zijd, zip1, zip, zim1, i32_natN, ziL, zi_0, zi_1, kQ_ha q72, kQ_ga q72, kQ_pa q72, kQ_hA q72, kQ_ln q72, kO_fI oL1', kO_fJ oL1', kO_fR oL1', kO_fN oL1', kO_oI oL1', kO_oJ oL1', kO_oR oL1', kO_oN oL1', kO_oC oL1', kO_oP oL1', kO_pF oL1', h7k]
        repeat' (first | (exfalso; omega) | (with_reducible refine zb_in ?_ ?_ ?_ ?_; omega; omega; omega) | (with_reducible refine zb_le ?_ ?_ ?_ ?_ (fun _ => ?_) (fun _ => ?_); omega; omega; omega; omega) | (with_reducible refine zb_lt ?_ ?_ ?_ ?_ (fun _ => ?_) (fun _ => ?_); omega; omega; omega; omega) | (with_reducible refine zb_eq ?_ ?_ ?_ ?_ (fun _ => ?_) (fun _ => ?_); omega; omega; omega; omega) | (with_reducible refine zb_leL ?_ ?_ ?_ ?_ (fun _ => ?_) (fun _ => ?_); omega; omega; omega; omega) | (with_reducible refine zb_ltL ?_ ?_ ?_ ?_ (fun _ => ?_) (fun _ => ?_); omega; omega; omega; omega) | (with_reducible refine zb_eqL ?_ ?_ ?_ ?_ (fun _ => ?_) (fun _ => ?_); omega; omega; omega; omega) | (with_reducible refine zb_nz ?_ ?_ ?_ ?_; omega; omega; omega) | (with_reducible refine zb_nzL ?_ ?_ ?_ ?_; omega; omega; omega) | with_reducible refine zb_ite ?_ | with_reducible refine zb_iteL ?_ | ((with_reducible intro y hy); subst hy; try simp only [zl32, zl64, i32_add, i32_sub, i32_mul, i32_neg, i64_add, i64_sub, i64_mul, i64_neg, cv_gi, cv_gw, cv_ga, cv_gl, cv_pi, cv_pw, cv_pa, cv_pl, zf_S, zf_i, zf_l, mz1, mz2, mz3, mz4, zr_ii, zr_iw, zr_ia, zr_il, zr_wi, zr_ww, zr_wa, zr_wl, zr_ai, zr_aw, zr_aa, zr_al, zr_li, zr_lw, zr_la, zr_ll, zw_ii, zw_ww, zw_aa, zw_ll, reduceIte, Nat.reduceEqDiff, if_true, if_false]) | with_reducible refine zb_o1 ?_ | with_reducible refine zb_o2 ?_ | with_reducible refine zb_o3 ?_ | with_reducible refine zb_o4 ?_ | with_reducible refine zb_tr ?_ | exact trivial | with_reducible refine zb_T ?_ | with_reducible refine zb_sp ?_ ?_)
        generalize hS3 : hup S2 P (kI 7 (zup (zdgs pa ((b * zpR pa (l + 1) + k') * zpD pa (l + 1))) (l + 1) (k : Int))) = S3
        have hF23 : kF (fun q => q = P) S2 S3 := by rw [← hS3]; exact kF.up _ rfl
        have hF3 : kF (kMl A T P S0 6) S0 S3 := hF2.trans' (hF23.mono (fun q h => Or.inr (Or.inr (Or.inl h))))
        have hWS3 := hW.G (hkpt S3 hF3)
        have hS3s : kScr A S3 := by rw [← hS3]; exact hS2.up _ nP
        have oT3 : S3 T = some (kTo fa dg L1 L2 P hd2 hv2 (A 0)) := hF23.at oT2 nTP
        have iP3 : S3 P = some (kI 7 (zdgs pa ((b * zpR pa (l + 1) + k) * zpD pa (l + 1)))) := by
          rw [← hS3, hup_at, zdgs_st hv (l := l + 1) (by omega) hl b k k' hkR hk']
        have hB3 : kBest S0 S3 M p pa a hd2 hv2 (zbs M p pa a ((b * zpR pa (l + 1) + k) * zpD pa (l + 1))) := by
          rw [← hS3]; exact hB2.up hP0 _
        have hsb := hv.2.2.2.2.1 (l + 1) (by omega) hl
        have hq4 : zpD pa (zpL pa) / zpD pa (l + 1 + 1) ≤ 4 := Nat.le_trans (Nat.div_le_self _ _) hv.2.2.2.1
        have hwb : 0 ≤ zpS pa (l + 1) * ((zpD pa (zpL pa) / zpD pa (l + 1 + 1) : Nat) : Int) ∧ zpS pa (l + 1) * ((zpD pa (zpL pa) / zpD pa (l + 1 + 1) : Nat) : Int) ≤ 6912 := by
          refine ⟨Int.mul_nonneg hsb.1 (Int.natCast_nonneg _), ?_⟩
          have := Int.mul_le_mul (a := zpS pa (l + 1)) (b := ((zpD pa (zpL pa) / zpD pa (l + 1 + 1) : Nat) : Int)) (c := 1728) (d := 4) (by omega) (Int.ofNat_le.mpr hq4) (Int.natCast_nonneg _) (by omega)
          omega
        refine kC_worthOf hWS3 hv (l + 1) (by omega) hl _ ?_
        try simp (disch := first | assumption | omega) only [zl32, zl64, i32_add, i32_sub, i32_mul, i32_neg, i64_add, i64_sub, i64_mul, i64_neg, cv_gi, cv_gw, cv_ga, cv_gl, cv_pi, cv_pw, cv_pa, cv_pl, zf_S, zf_i, zf_l, mz1, mz2, mz3, mz4, kn_haI, kn_haJ, kn_haQ, kn_gaI, kn_gaJ, kn_gaQ, kn_hoA, kn_hlen, kn_hfI, kn_hfJ, kn_hfR, kn_hfN, kn_hoI, kn_hoJ, kn_hoR, kn_hoN, kn_hoC, kn_hoP, kn_paI, kn_paJ, kn_paQ, kn_hpF, kuI_ha, kuI_ga, kuI_pa, kuI_hA, kuI_ln, kuB_ha, kuB_ga, kuB_pa, kuB_hA, kuB_ln, kuJ_ha, kuJ_ga, kuJ_pa, kuJ_hA, kuJ_ln, kuQ_ha, kuQ_ga, kuQ_pa, kuQ_hA, kuQ_ln, kuO_fI, kuO_fJ, kuO_fR, kuO_fN, kuO_oI, kuO_oJ, kuO_oR, kuO_oN, kuO_oC, kuO_oP, kuO_pF, kvI_s, kvJ_s, kvR_s, kvN_s, kvN_0, kvN_v, kpI_s, kpJ_s, kpR_s, kpN_s, kpN_0, kpN_v, List.getElem?_cons_zero, List.getElem?_cons_succ, List.set_cons_zero, List.set_cons_succ, List.length_cons, List.length_nil, forall_eq, exists_eq_left', Option.some.injEq, true_and, and_true, reduceIte, Nat.reduceEqDiff, Nat.reduceAdd, Nat.reduceLT, hup_hup, hup_at, eq_self, if_true, if_false, implies_true, true_implies, false_implies, not_true_eq_false, not_false_eq_true, or_true, true_or, i32_10, i32_01, kI_new, kB_new, kJ_new, kI_new2, kB_new2, kJ_new2, kQ_new, kO_new, zkd, zijd, zip1, zip, zim1, i32_natN, ziL, zi_0, zi_1, kO_fI oT2, kO_fJ oT2, kO_fR oT2, kO_fN oT2, kO_oI oT2, kO_oJ oT2, kO_oR oT2, kO_oN oT2, kO_oC oT2, kO_oP oT2, kO_pF oT2]
        rw [Nat.add_mul, Nat.one_mul] at hmc2 hms2
        refine ⟨2 * zpD pa (l + 1), 9 * zpD pa (l + 1), by omega, by omega, ?_⟩
        rw [i32_64 (by omega) (by omega), i32_64 (by omega) (by omega)]
        try simp only [zl32, zl64, i32_add, i32_sub, i32_mul, i32_neg, i64_add, i64_sub, i64_mul, i64_neg, cv_gi, cv_gw, cv_ga, cv_gl, cv_pi, cv_pw, cv_pa, cv_pl, zf_S, zf_i, zf_l, mz1, mz2, mz3, mz4]
        have hval := zhs_st hv (l := l + 1) (by omega) hl b k hkR (zpL pa - 1) (by omega)
        rw [if_pos (by omega), Int.mul_assoc] at hval
        rw [← hval, show (((l + 1 : Nat) : Int) - 1) = (l : Int) from by omega]
        refine ih (by omega) d (b * zpR pa (l + 1) + k) S3 hd2 hv2 (A (14 + 9 * (l + 1) + k)) _ _ _ (by omega) hF3 hS3s oT3 iP3 hB3 ?_ ?_ (Nat.le_refl _) (Nat.le_refl _) (fun S4 hd4 hv4 hF34 hS4 oT4 iP4 hB4 => ?_)
        · rw [← hrowB k hkR]
          exact hF23.at (hrows2 k (by omega)) (nP _ (by omega))
        · rintro ((h | h | ⟨r, i, h1, h2, h3, h⟩) | h | h | h)
          · exact hA.ne (by omega) (by omega) (by omega) h
          · exact hA.ne (by omega) (by omega) (by omega) h
          · exact hA.ne (by omega) (by omega) (by omega) h
          · exact nT _ (by omega) h
          · exact nP _ (by omega) h
          · obtain ⟨y, hy⟩ := hs0.ex (14 + 9 * (l + 1) + k) (by omega) (by omega)
            rw [hy] at h; cases h
        · refine ihn (k + 1) (by omega) S4 _ _ hd4 hv4 k hkR (hF3.trans' (hF34.mono (fun q h => h.mono (by omega)))) ?_ hS4 oT4 iP4 hB4 ?_ (by omega) (by omega)
          · exact (hFS2.trans' (hF23.mono (fun q h => Or.inr (Or.inr (Or.inl h))))).trans' (hF34.mono (fun q h => h.mono (by omega)))
          · intro i hi
            refine hF34.at (hF23.at (hrows2 i hi) (nP _ (by omega))) ?_
            rintro ((h | h | ⟨r, i', h1, h2, h3, h⟩) | h | h | h)
            · exact hA.ne (by omega) (by omega) (by omega) h
            · exact hA.ne (by omega) (by omega) (by omega) h
            · exact hA.ne (by omega) (by omega) (by omega) h
            · exact nT _ (by omega) h
            · exact nP _ (by omega) h
            · obtain ⟨y, hy⟩ := hs0.ex (14 + 9 * (l + 1) + i) (by omega) (by omega)
              rw [hy] at h; cases h
    refine ⟨zpR pa (l + 1) + 1, LL (zpR pa (l + 1)) 0 (by omega) S1 0 0 hd hv0 0 (by omega) hF01 (hF1.mono hrm) hS1 (hF1.at oT nrT) ?_ ?_ hrows ?_ ?_⟩
    · rw [e00]; exact hF1.at iP nrP
    · rw [e00]; exact hBfr S S1 _ _ _ hF1 hB hn0
    · rw [hDs, Nat.mul_comm (zpD pa (l + 1)), ← Nat.mul_assoc, Nat.mul_comm 2] at hmc
      rw [Nat.zero_add, ← Nat.mul_assoc]
      exact hmc
    · rw [hDs, Nat.mul_comm (zpD pa (l + 1)), ← Nat.mul_assoc, Nat.mul_comm 9] at hms
      rw [Nat.zero_add, ← Nat.mul_assoc]
      exact hms
