/-! CLASS 10: factorsOf -/
set_option maxRecDepth 100000
theorem zpr_pow {p : Int} (hp : zpr p) {d : Nat} (hd1 : 1 ≤ d) (hd : d ≤ 4) : 2 ≤ p ^ d ∧ p ^ d ≤ 2401 := by
  have : d = 1 ∨ d = 2 ∨ d = 3 ∨ d = 4 := by omega
  rcases hp with rfl | rfl | rfl | rfl <;> (rcases this with rfl | rfl | rfl | rfl <;> decide)
theorem kC_codes {Kc A : Nat → Nat} {S0 : hH} {fa Ls : Nat} {p M : Int} {tr : Option Nat} {La : Nat → Prop} (hA : kInj A La) (o00 : S0 (A 0) = some (kOb A p M tr)) (hK0 : ∃ f, S0 (Kc 0) = some (kQ 3 0 f)) (hI0 : ∀ k, 3 ≤ k → k ≤ 5 → ∃ g, S0 (A k) = some (kI 9 g)) (hfa : S0 fa = none) (hLs : S0 Ls = none) (hp : zpr p) (l : Int) (hl : 0 < l) (hl2 : l < p) (d : Nat) (hd1 : 1 ≤ d) (hd4 : d ≤ 4) (mc ms N : Nat) (hN : N ≤ 2401) (rec19 : Nat → Nat → hH → Int32 → Prop) (Q : Nat → hH → Prop) : ∀ (n code L : Nat) (F : Nat → Int) (fs : List zF) (S : hH) (kc nc : Nat), code + n = N → kFI Kc A S0 fa Ls p l S L F fs → 0 < L → kc + 3 * (9 - fs.length) ≤ mc → nc + 60 * (9 - fs.length) ≤ ms →
    (∀ S' kc' nc', kFI Kc A S0 fa Ls p l S' (zCd p d n code L F fs).1 (zCd p d n code L F fs).2.1 (zCd p d n code L F fs).2.2 → 0 < (zCd p d n code L F fs).1 → kc' + 3 * (9 - (zCd p d n code L F fs).2.2.length) ≤ mc → nc' + 60 * (9 - (zCd p d n code L F fs).2.2.length) ≤ ms → rec19 kc' nc' S' (i32 ((d : Int) + 1))) →
    (∀ S', kFI Kc A S0 fa Ls p l S' (zCd p d n code L F fs).1 (zCd p d n code L F fs).2.1 (zCd p d n code L F fs).2.2 → (zCd p d n code L F fs).1 = 0 → Q Ls S') →
    wX0_factorsOf_l66 Kc mc ms rec19 Q (A 0) Ls fa (i32 d) (i32 N) (n + 1) kc nc S (i32 code) := by
  have hp7 : 2 ≤ p ∧ p ≤ 7 := by unfold zpr at hp; omega
  have nK : ∀ k, 3 ≤ k → k ≤ 5 → Kc 0 ≠ A k := fun k h1 h2 => by
    obtain ⟨f, hf⟩ := hK0
    obtain ⟨g, hg⟩ := hI0 k h1 h2
    exact kne2 hf hg (by intro e; cases e)
  have nfa : ∀ k, 3 ≤ k → k ≤ 5 → fa ≠ A k := fun k h1 h2 e => by
    obtain ⟨g, hg⟩ := hI0 k h1 h2
    rw [e, hg] at hfa
    cases hfa
  intro n
  induction n with
  | zero =>
    intro code L F fs S kc nc hc hI hL0 hk1 hk2 hrec hbr
    rw [wX0_factorsOf_l66]
    try simp only [zl32, zl64, i32_add, i32_sub, i32_mul, i32_neg, i64_add, i64_sub, i64_mul, i64_neg, cv_gi, cv_gw, cv_ga, cv_gl, cv_pi, cv_pw, cv_pa, cv_pl, zf_S, zf_i, zf_l, mz1, mz2, mz3, mz4]
    repeat' (first | (exfalso; omega) | (with_reducible refine zb_in ?_ ?_ ?_ ?_; omega; omega; omega) | (with_reducible refine zb_le ?_ ?_ ?_ ?_ (fun _ => ?_) (fun _ => ?_); omega; omega; omega; omega) | (with_reducible refine zb_lt ?_ ?_ ?_ ?_ (fun _ => ?_) (fun _ => ?_); omega; omega; omega; omega) | (with_reducible refine zb_eq ?_ ?_ ?_ ?_ (fun _ => ?_) (fun _ => ?_); omega; omega; omega; omega) | (with_reducible refine zb_leL ?_ ?_ ?_ ?_ (fun _ => ?_) (fun _ => ?_); omega; omega; omega; omega) | (with_reducible refine zb_ltL ?_ ?_ ?_ ?_ (fun _ => ?_) (fun _ => ?_); omega; omega; omega; omega) | (with_reducible refine zb_eqL ?_ ?_ ?_ ?_ (fun _ => ?_) (fun _ => ?_); omega; omega; omega; omega) | (with_reducible refine zb_nz ?_ ?_ ?_ ?_; omega; omega; omega) | (with_reducible refine zb_nzL ?_ ?_ ?_ ?_; omega; omega; omega) | with_reducible refine zb_ite ?_ | with_reducible refine zb_iteL ?_ | ((with_reducible intro y hy); subst hy; try simp only [zl32, zl64, i32_add, i32_sub, i32_mul, i32_neg, i64_add, i64_sub, i64_mul, i64_neg, cv_gi, cv_gw, cv_ga, cv_gl, cv_pi, cv_pw, cv_pa, cv_pl, zf_S, zf_i, zf_l, mz1, mz2, mz3, mz4, zr_ii, zr_iw, zr_ia, zr_il, zr_wi, zr_ww, zr_wa, zr_wl, zr_ai, zr_aw, zr_aa, zr_al, zr_li, zr_lw, zr_la, zr_ll, zw_ii, zw_ww, zw_aa, zw_ll, reduceIte, Nat.reduceEqDiff, if_true, if_false]) | with_reducible refine zb_o1 ?_ | with_reducible refine zb_o2 ?_ | with_reducible refine zb_o3 ?_ | with_reducible refine zb_o4 ?_ | with_reducible refine zb_tr ?_ | exact trivial | with_reducible refine zb_T ?_ | with_reducible refine zb_sp ?_ ?_)
    exact hrec S kc nc hI hL0 hk1 hk2
  | succ n ih =>
    intro code L F fs S kc nc hc hI hL0 hk1 hk2 hrec hbr
    have hI' := hI
    obtain ⟨hF, ⟨i3, i4, i5⟩, ⟨R, ia, hR⟩, ⟨E, cap, g, hE, hcap, hE0, hfs⟩, hF1, rF, hL9, hlen⟩ := hI
    have n0 : ∀ k, 3 ≤ k → k ≤ 5 → A 0 ≠ A k := fun k h1 h2 => hA.ne (by omega) (by omega) (by omega)
    have o0 : S (A 0) = some (kOb A p M tr) := hF.at o00 (by
      rintro (h | h | h)
      · exact n0 3 (by omega) (by omega) h
      · exact n0 4 (by omega) (by omega) h
      · exact n0 5 (by omega) (by omega) h)
    have hK : kKc Kc S := by
      obtain ⟨f, hf⟩ := hK0
      exact ⟨f, hF.at hf (by
        rintro (h | h | h)
        · exact nK 3 (by omega) (by omega) h
        · exact nK 4 (by omega) (by omega) h
        · exact nK 5 (by omega) (by omega) h)⟩
    rw [wX0_factorsOf_l66]
    try simp (disch := first | assumption | omega) only [zl32, zl64, i32_add, i32_sub, i32_mul, i32_neg, i64_add, i64_sub, i64_mul, i64_neg, cv_gi, cv_gw, cv_ga, cv_gl, cv_pi, cv_pw, cv_pa, cv_pl, zf_S, zf_i, zf_l, mz1, mz2, mz3, mz4, kn_haI, kn_haJ, kn_haQ, kn_gaI, kn_gaJ, kn_gaQ, kn_hoA, kn_hlen, kn_hfI, kn_hfJ, kn_hfR, kn_hfN, kn_hoI, kn_hoJ, kn_hoR, kn_hoN, kn_hoC, kn_hoP, kn_paI, kn_paJ, kn_paQ, kn_hpF, kuI_ha, kuI_ga, kuI_pa, kuI_hA, kuI_ln, kuB_ha, kuB_ga, kuB_pa, kuB_hA, kuB_ln, kuJ_ha, kuJ_ga, kuJ_pa, kuJ_hA, kuJ_ln, kuQ_ha, kuQ_ga, kuQ_pa, kuQ_hA, kuQ_ln, kuO_fI, kuO_fJ, kuO_fR, kuO_fN, kuO_oI, kuO_oJ, kuO_oR, kuO_oN, kuO_oC, kuO_oP, kuO_pF, kvI_s, kvJ_s, kvR_s, kvN_s, kvN_0, kvN_v, kpI_s, kpJ_s, kpR_s, kpN_s, kpN_0, kpN_v, List.getElem?_cons_zero, List.getElem?_cons_succ, List.set_cons_zero, List.set_cons_succ, List.length_cons, List.length_nil, forall_eq, exists_eq_left', Option.some.injEq, true_and, and_true, reduceIte, Nat.reduceEqDiff, Nat.reduceAdd, Nat.reduceLT, hup_hup, hup_at, eq_self, if_true, if_false, implies_true, true_implies, false_implies, not_true_eq_false, not_false_eq_true, or_true, true_or, i32_10, i32_01, kI_new, kB_new, kJ_new, kI_new2, kB_new2, kJ_new2, kQ_new, kO_new, zkd, zijd, zip1, zip, zim1, i32_natN, ziL, zi_0, zi_1, kO_fI o0, kO_fJ o0, kO_fR o0, kO_fN o0, kO_oI o0, kO_oJ o0, kO_oR o0, kO_oN o0, kO_oC o0, kO_oP o0, kO_pF o0]
    repeat' (first | (exfalso; omega) | (with_reducible refine zb_in ?_ ?_ ?_ ?_; omega; omega; omega) | (with_reducible refine zb_le ?_ ?_ ?_ ?_ (fun _ => ?_) (fun _ => ?_); omega; omega; omega; omega) | (with_reducible refine zb_lt ?_ ?_ ?_ ?_ (fun _ => ?_) (fun _ => ?_); omega; omega; omega; omega) | (with_reducible refine zb_eq ?_ ?_ ?_ ?_ (fun _ => ?_) (fun _ => ?_); omega; omega; omega; omega) | (with_reducible refine zb_leL ?_ ?_ ?_ ?_ (fun _ => ?_) (fun _ => ?_); omega; omega; omega; omega) | (with_reducible refine zb_ltL ?_ ?_ ?_ ?_ (fun _ => ?_) (fun _ => ?_); omega; omega; omega; omega) | (with_reducible refine zb_eqL ?_ ?_ ?_ ?_ (fun _ => ?_) (fun _ => ?_); omega; omega; omega; omega) | (with_reducible refine zb_nz ?_ ?_ ?_ ?_; omega; omega; omega) | (with_reducible refine zb_nzL ?_ ?_ ?_ ?_; omega; omega; omega) | with_reducible refine zb_ite ?_ | with_reducible refine zb_iteL ?_ | ((with_reducible intro y hy); subst hy; try simp only [zl32, zl64, i32_add, i32_sub, i32_mul, i32_neg, i64_add, i64_sub, i64_mul, i64_neg, cv_gi, cv_gw, cv_ga, cv_gl, cv_pi, cv_pw, cv_pa, cv_pl, zf_S, zf_i, zf_l, mz1, mz2, mz3, mz4, zr_ii, zr_iw, zr_ia, zr_il, zr_wi, zr_ww, zr_wa, zr_wl, zr_ai, zr_aw, zr_aa, zr_al, zr_li, zr_lw, zr_la, zr_ll, zw_ii, zw_ww, zw_aa, zw_ll, reduceIte, Nat.reduceEqDiff, if_true, if_false]) | with_reducible refine zb_o1 ?_ | with_reducible refine zb_o2 ?_ | with_reducible refine zb_o3 ?_ | with_reducible refine zb_o4 ?_ | with_reducible refine zb_tr ?_ | exact trivial | with_reducible refine zb_T ?_ | with_reducible refine zb_sp ?_ ?_)
    refine kC_timesWith o0 i3 i4 i5 ia (hA.ne (by omega) (by omega) (by omega)) (hA.ne (by omega) (by omega) (by omega)) (hA.ne (by omega) (by omega) (by omega)) (nfa 3 (by omega) (by omega)) (nfa 4 (by omega) (by omega)) (nfa 5 (by omega) (by omega)) hp l hl hl2 F L hL9 rF hF1 hR code d hd1 (by omega) (by omega) _ (fun S' R' hF' a3 a4 a5 aa hR' hF1' => ?_)
    have zs := zTk_sum (p := p) (g := ztrial p code d) (d := d) 9 L F 0
    have zo := zTk_ok (p := p) (by omega) (g := ztrial p code d) hd1 9 L F 0 hL9 rF
    have hFS : kF (kTs A) S0 S' := by
      intro q y hq hm
      refine hF' q y (hF q y hq hm) ?_
      rintro (h | h | h | h)
      · exact hm (Or.inl h)
      · exact hm (Or.inr (Or.inl h))
      · exact hm (Or.inr (Or.inr h))
      · rw [h, hfa] at hq; cases hq
    have kS : ∀ q y, S q = some y → q ≠ fa → (∀ v, y ≠ kI 9 v) ∨ S0 q = none → S' q = some y := by
      intro q y hq hqf hy
      refine hF' q y hq ?_
      have key : ∀ k, 3 ≤ k → k ≤ 5 → q ≠ A k := by
        intro k h1 h2 e
        rcases hy with hy | hy
        · have : ∃ g, S (A k) = some (kI 9 g) := by
            have : k = 3 ∨ k = 4 ∨ k = 5 := by omega
            rcases this with rfl | rfl | rfl
            · exact i3
            · exact i4
            · exact i5
          obtain ⟨g, hg⟩ := this
          rw [← e, hq] at hg
          injection hg with hg
          exact hy g hg
        · obtain ⟨g, hg⟩ := hI0 k h1 h2
          rw [e, hg] at hy
          cases hy
      rintro (h | h | h | h)
      · exact key 3 (by omega) (by omega) h
      · exact key 4 (by omega) (by omega) h
      · exact key 5 (by omega) (by omega) h
      · exact hqf h
    have hE' : kAL Kc S' Ls E fs.length cap g := by
      obtain ⟨⟨v, h1⟩, ⟨fe, h2, h3⟩, h4⟩ := hE
      have nL : Ls ≠ fa := kne2 h1 ia (by intro e; cases e)
      have nE : E ≠ fa := kne2 h2 ia (by intro e; cases e)
      exact ⟨⟨v, kS _ _ h1 nL (Or.inr hLs)⟩, ⟨fe, kS _ _ h2 nE (Or.inl (fun v e => by cases e)), h3⟩, h4⟩
    have hfs' : kFs (fun q => S0 q = none ∧ q ≠ fa) S' g fs := hfs.fr (fun q hq => ⟨fun v h => kS q _ h hq.2 (Or.inr hq.1), fun v h => kS q _ h hq.2 (Or.inr hq.1)⟩)
    have n0' : ∀ k, 3 ≤ k → k ≤ 5 → A 0 ≠ A k := n0
    have o0' : S' (A 0) = some (kOb A p M tr) := hFS.at o00 (by
      rintro (h | h | h)
      · exact n0 3 (by omega) (by omega) h
      · exact n0 4 (by omega) (by omega) h
      · exact n0 5 (by omega) (by omega) h)
    have hK' : kKc Kc S' := by
      obtain ⟨f, hf⟩ := hK0
      exact ⟨f, hFS.at hf (by
        rintro (h | h | h)
        · exact nK 3 (by omega) (by omega) h
        · exact nK 4 (by omega) (by omega) h
        · exact nK 5 (by omega) (by omega) h)⟩
    generalize hz : zTk p (ztrial p code d) d 9 L F 0 = z at *
    obtain ⟨L1, F1, tm⟩ := z
    simp only at hR' hF1' zs zo ⊢
    have hI1 : kFI Kc A S0 fa Ls p l S' L1 F1 fs := ⟨hFS, ⟨⟨_, a3⟩, a4, a5⟩, ⟨R', aa, hR'⟩, ⟨E, cap, g, hE', hcap, hE0, hfs'⟩, hF1', zo.2.2, by omega, by omega⟩
    by_cases htm : tm = 0
    · subst htm
      try simp only [zl32, zl64, i32_add, i32_sub, i32_mul, i32_neg, i64_add, i64_sub, i64_mul, i64_neg, cv_gi, cv_gw, cv_ga, cv_gl, cv_pi, cv_pw, cv_pa, cv_pl, zf_S, zf_i, zf_l, mz1, mz2, mz3, mz4]
      repeat' (first | (exfalso; omega) | (with_reducible refine zb_in ?_ ?_ ?_ ?_; omega; omega; omega) | (with_reducible refine zb_le ?_ ?_ ?_ ?_ (fun _ => ?_) (fun _ => ?_); omega; omega; omega; omega) | (with_reducible refine zb_lt ?_ ?_ ?_ ?_ (fun _ => ?_) (fun _ => ?_); omega; omega; omega; omega) | (with_reducible refine zb_eq ?_ ?_ ?_ ?_ (fun _ => ?_) (fun _ => ?_); omega; omega; omega; omega) | (with_reducible refine zb_leL ?_ ?_ ?_ ?_ (fun _ => ?_) (fun _ => ?_); omega; omega; omega; omega) | (with_reducible refine zb_ltL ?_ ?_ ?_ ?_ (fun _ => ?_) (fun _ => ?_); omega; omega; omega; omega) | (with_reducible refine zb_eqL ?_ ?_ ?_ ?_ (fun _ => ?_) (fun _ => ?_); omega; omega; omega; omega) | (with_reducible refine zb_nz ?_ ?_ ?_ ?_; omega; omega; omega) | (with_reducible refine zb_nzL ?_ ?_ ?_ ?_; omega; omega; omega) | with_reducible refine zb_ite ?_ | with_reducible refine zb_iteL ?_ | ((with_reducible intro y hy); subst hy; try simp only [zl32, zl64, i32_add, i32_sub, i32_mul, i32_neg, i64_add, i64_sub, i64_mul, i64_neg, cv_gi, cv_gw, cv_ga, cv_gl, cv_pi, cv_pw, cv_pa, cv_pl, zf_S, zf_i, zf_l, mz1, mz2, mz3, mz4, zr_ii, zr_iw, zr_ia, zr_il, zr_wi, zr_ww, zr_wa, zr_wl, zr_ai, zr_aw, zr_aa, zr_al, zr_li, zr_lw, zr_la, zr_ll, zw_ii, zw_ww, zw_aa, zw_ll, reduceIte, Nat.reduceEqDiff, if_true, if_false]) | with_reducible refine zb_o1 ?_ | with_reducible refine zb_o2 ?_ | with_reducible refine zb_o3 ?_ | with_reducible refine zb_o4 ?_ | with_reducible refine zb_tr ?_ | exact trivial | with_reducible refine zb_T ?_ | with_reducible refine zb_sp ?_ ?_)
      have hcd : zCd p d (n + 1) code L F fs = zCd p d n (code + 1) L1 F1 fs := by
        by_cases c : L < d
        · have e : zTk p (ztrial p code d) d 9 L F 0 = (L, F, 0) := by
            unfold zTk
            rw [if_neg (by unfold zdiv; omega)]
          rw [hz] at e
          injection e with e1 e2
          injection e2 with e2 e3
          rw [e1, e2, zCd_lt c, zCd_lt c]
        · conv => lhs; unfold zCd
          rw [if_neg c, hz, if_neg (by show ¬ 0 < 0; omega)]
      rw [hcd] at hrec hbr
      exact ih (code + 1) L1 F1 fs S' kc nc (by omega) hI1 (by rw [Nat.mul_zero] at zs; omega) hk1 hk2 hrec hbr
    · have hdt : d * 1 ≤ d * tm := Nat.mul_le_mul_left d (by omega)
      have hdt2 : 1 * tm ≤ d * tm := Nat.mul_le_mul_right tm hd1
      have hcL : ¬ L < d := by
        intro c
        have e : zTk p (ztrial p code d) d 9 L F 0 = (L, F, 0) := by
          unfold zTk
          rw [if_neg (by unfold zdiv; omega)]
        rw [hz] at e
        injection e with e1 e2
        injection e2 with e2 e3
        omega
      have hcd : zCd p d (n + 1) code L F fs = zCd p d n (code + 1) L1 F1 (fs ++ [(d, tm, ztrial p code d)]) := by
        conv => lhs; unfold zCd
        rw [if_neg hcL, hz, if_pos (by show 0 < tm; omega)]
      rw [hcd] at hrec hbr
      try simp only [zl32, zl64, i32_add, i32_sub, i32_mul, i32_neg, i64_add, i64_sub, i64_mul, i64_neg, cv_gi, cv_gw, cv_ga, cv_gl, cv_pi, cv_pw, cv_pa, cv_pl, zf_S, zf_i, zf_l, mz1, mz2, mz3, mz4]
      repeat' (first | (exfalso; omega) | (with_reducible refine zb_in ?_ ?_ ?_ ?_; omega; omega; omega) | (with_reducible refine zb_le ?_ ?_ ?_ ?_ (fun _ => ?_) (fun _ => ?_); omega; omega; omega; omega) | (with_reducible refine zb_lt ?_ ?_ ?_ ?_ (fun _ => ?_) (fun _ => ?_); omega; omega; omega; omega) | (with_reducible refine zb_eq ?_ ?_ ?_ ?_ (fun _ => ?_) (fun _ => ?_); omega; omega; omega; omega) | (with_reducible refine zb_leL ?_ ?_ ?_ ?_ (fun _ => ?_) (fun _ => ?_); omega; omega; omega; omega) | (with_reducible refine zb_ltL ?_ ?_ ?_ ?_ (fun _ => ?_) (fun _ => ?_); omega; omega; omega; omega) | (with_reducible refine zb_eqL ?_ ?_ ?_ ?_ (fun _ => ?_) (fun _ => ?_); omega; omega; omega; omega) | (with_reducible refine zb_nz ?_ ?_ ?_ ?_; omega; omega; omega) | (with_reducible refine zb_nzL ?_ ?_ ?_ ?_; omega; omega; omega) | with_reducible refine zb_ite ?_ | with_reducible refine zb_iteL ?_ | ((with_reducible intro y hy); subst hy; try simp only [zl32, zl64, i32_add, i32_sub, i32_mul, i32_neg, i64_add, i64_sub, i64_mul, i64_neg, cv_gi, cv_gw, cv_ga, cv_gl, cv_pi, cv_pw, cv_pa, cv_pl, zf_S, zf_i, zf_l, mz1, mz2, mz3, mz4, zr_ii, zr_iw, zr_ia, zr_il, zr_wi, zr_ww, zr_wa, zr_wl, zr_ai, zr_aw, zr_aa, zr_al, zr_li, zr_lw, zr_la, zr_ll, zw_ii, zw_ww, zw_aa, zw_ll, reduceIte, Nat.reduceEqDiff, if_true, if_false]) | with_reducible refine zb_o1 ?_ | with_reducible refine zb_o2 ?_ | with_reducible refine zb_o3 ?_ | with_reducible refine zb_o4 ?_ | with_reducible refine zb_tr ?_ | exact trivial | with_reducible refine zb_T ?_ | with_reducible refine zb_sp ?_ ?_)
      refine ⟨by omega, by omega, ?_⟩
      intro r hr
      have n0r : A 0 ≠ r := kne o0' hr
      have nLr : Ls ≠ r := by obtain ⟨v, h⟩ := hE'.1; exact kne h hr
      have n3r : A 3 ≠ r := kne a3 hr
      try simp (disch := first | assumption | omega) only [zl32, zl64, i32_add, i32_sub, i32_mul, i32_neg, i64_add, i64_sub, i64_mul, i64_neg, cv_gi, cv_gw, cv_ga, cv_gl, cv_pi, cv_pw, cv_pa, cv_pl, zf_S, zf_i, zf_l, mz1, mz2, mz3, mz4, kn_haI, kn_haJ, kn_haQ, kn_gaI, kn_gaJ, kn_gaQ, kn_hoA, kn_hlen, kn_hfI, kn_hfJ, kn_hfR, kn_hfN, kn_hoI, kn_hoJ, kn_hoR, kn_hoN, kn_hoC, kn_hoP, kn_paI, kn_paJ, kn_paQ, kn_hpF, kuI_ha, kuI_ga, kuI_pa, kuI_hA, kuI_ln, kuB_ha, kuB_ga, kuB_pa, kuB_hA, kuB_ln, kuJ_ha, kuJ_ga, kuJ_pa, kuJ_hA, kuJ_ln, kuQ_ha, kuQ_ga, kuQ_pa, kuQ_hA, kuQ_ln, kuO_fI, kuO_fJ, kuO_fR, kuO_fN, kuO_oI, kuO_oJ, kuO_oR, kuO_oN, kuO_oC, kuO_oP, kuO_pF, kvI_s, kvJ_s, kvR_s, kvN_s, kvN_0, kvN_v, kpI_s, kpJ_s, kpR_s, kpN_s, kpN_0, kpN_v, List.getElem?_cons_zero, List.getElem?_cons_succ, List.set_cons_zero, List.set_cons_succ, List.length_cons, List.length_nil, forall_eq, exists_eq_left', Option.some.injEq, true_and, and_true, reduceIte, Nat.reduceEqDiff, Nat.reduceAdd, Nat.reduceLT, hup_hup, hup_at, eq_self, if_true, if_false, implies_true, true_implies, false_implies, not_true_eq_false, not_false_eq_true, or_true, true_or, i32_10, i32_01, kI_new, kB_new, kJ_new, kI_new2, kB_new2, kJ_new2, kQ_new, kO_new, zkd, zijd, zip1, zip, zim1, i32_natN, ziL, zi_0, zi_1, kO_fI o0', kO_fJ o0', kO_fR o0', kO_fN o0', kO_oI o0', kO_oJ o0', kO_oR o0', kO_oN o0', kO_oC o0', kO_oP o0', kO_pF o0']
      refine ⟨9, fun k => i32 (kz 9 (ztrial p code d) k), by rw [hup_ne n3r]; exact a3, by omega, by omega, ?_⟩
      intro a ha
      have nra : r ≠ a := fun e => by rw [← e, hup_at] at ha; cases ha
      have haS : S' a = none := by rw [hup_ne (fun e => nra e.symm)] at ha; exact ha
      have naS0 : ∀ q, S' q = none → S0 q = none := by
        intro q hq
        rcases hz2 : S0 q with _ | y
        · rfl
        · exfalso
          by_cases c : kTs A q
          · obtain ⟨g4, a4⟩ := a4
            obtain ⟨g5, a5⟩ := a5
            rcases c with c | c | c
            · rw [c, a3] at hq; cases hq
            · rw [c, a4] at hq; cases hq
            · rw [c, a5] at hq; cases hq
          · rw [hFS q y hz2 c] at hq
            cases hq
      refine ⟨⟨0, _, hup_at _ _ _, by decide, rfl⟩, ?_⟩
      have nar : a ≠ r := fun e => nra e.symm
      unfold wX5_init
      have nLa : Ls ≠ a := by obtain ⟨v, h⟩ := hE'.1; exact kne h haS
      obtain ⟨vL, oL⟩ := hE'.1
      try simp (disch := first | assumption | omega) only [zl32, zl64, i32_add, i32_sub, i32_mul, i32_neg, i64_add, i64_sub, i64_mul, i64_neg, cv_gi, cv_gw, cv_ga, cv_gl, cv_pi, cv_pw, cv_pa, cv_pl, zf_S, zf_i, zf_l, mz1, mz2, mz3, mz4, kn_haI, kn_haJ, kn_haQ, kn_gaI, kn_gaJ, kn_gaQ, kn_hoA, kn_hlen, kn_hfI, kn_hfJ, kn_hfR, kn_hfN, kn_hoI, kn_hoJ, kn_hoR, kn_hoN, kn_hoC, kn_hoP, kn_paI, kn_paJ, kn_paQ, kn_hpF, kuI_ha, kuI_ga, kuI_pa, kuI_hA, kuI_ln, kuB_ha, kuB_ga, kuB_pa, kuB_hA, kuB_ln, kuJ_ha, kuJ_ga, kuJ_pa, kuJ_hA, kuJ_ln, kuQ_ha, kuQ_ga, kuQ_pa, kuQ_hA, kuQ_ln, kuO_fI, kuO_fJ, kuO_fR, kuO_fN, kuO_oI, kuO_oJ, kuO_oR, kuO_oN, kuO_oC, kuO_oP, kuO_pF, kvI_s, kvJ_s, kvR_s, kvN_s, kvN_0, kvN_v, kpI_s, kpJ_s, kpR_s, kpN_s, kpN_0, kpN_v, List.getElem?_cons_zero, List.getElem?_cons_succ, List.set_cons_zero, List.set_cons_succ, List.length_cons, List.length_nil, forall_eq, exists_eq_left', Option.some.injEq, true_and, and_true, reduceIte, Nat.reduceEqDiff, Nat.reduceAdd, Nat.reduceLT, hup_hup, hup_at, eq_self, if_true, if_false, implies_true, true_implies, false_implies, not_true_eq_false, not_false_eq_true, or_true, true_or, i32_10, i32_01, kI_new, kB_new, kJ_new, kI_new2, kB_new2, kJ_new2, kQ_new, kO_new, zkd, zijd, zip1, zip, zim1, i32_natN, ziL, zi_0, zi_1, kO_fI oL, kO_fJ oL, kO_fR oL, kO_fN oL, kO_oI oL, kO_oJ oL, kO_oR oL, kO_oN oL, kO_oC oL, kO_oP oL, kO_pF oL]
      refine ⟨1, 30, by omega, by omega, ?_⟩
      generalize hS2 : hup (hup S' r (kO 5 [.ref a, .int (i32 d), .int (i32 tm)])) a (.inl (0, (9, .inl (fun k => i32 (kz 9 (ztrial p code d) k))))) = S2
      have e2 : ∀ q y, S' q = some y → S2 q = some y := by
        intro q y hq
        rw [← hS2, hup_ne (kne hq haS), hup_ne (kne hq hr)]
        exact hq
      have r2 : S2 r = some (kO 5 [.ref a, .int (i32 d), .int (i32 tm)]) := by rw [← hS2, hup_ne nra, hup_at]
      have a2 : S2 a = some (kI 9 (ztrial p code d)) := by rw [← hS2, hup_at]; rfl
      have hE2 : kAL Kc S2 Ls E fs.length cap g := by
        obtain ⟨⟨v, h1⟩, ⟨fe, h2, h3⟩, h4⟩ := hE'
        exact ⟨⟨v, e2 _ _ h1⟩, ⟨fe, e2 _ _ h2, h3⟩, h4⟩
      have hfs2 : kFs (fun q => S0 q = none ∧ q ≠ fa) S2 g fs := hfs'.fr (fun q _ => ⟨fun v h => e2 _ _ h, fun v h => e2 _ _ h⟩)
      have hK2 : kKc Kc S2 := by obtain ⟨f, h⟩ := hK'; exact ⟨f, e2 _ _ h⟩
      have hlen2 : fs.length + 1 + L1 ≤ 8 := by omega
      refine kC_add hE2 hK2 r2 kCl_5 (Or.inl (by omega)) (by omega) 1 30 (by omega) (by omega) _ (fun S3 E3 cap3 hE3 hc3 hE31 hfr3 => ?_)
      have hc10 : cap3 ≤ 10 := by omega
      have hI3 : kFI Kc A S0 fa Ls p l S3 L1 F1 (fs ++ [(d, tm, ztrial p code d)]) := by
        refine kFI_add hK0 nK rfl hE3 hE2 hE31 hE0 hc10 hfr3 ?_ hLs ⟨⟨_, e2 _ _ a3⟩, ?_, ?_⟩ (e2 _ _ aa) hR' hfs2 r2 a2 (naS0 r hr) (naS0 a haS) ?_ hF1' zo.2.2 (by omega) hlen2
        · intro q y hq hm
          exact e2 _ _ (hFS q y hq hm)
        · obtain ⟨g, h⟩ := a4
          exact ⟨g, e2 _ _ h⟩
        · obtain ⟨g, h⟩ := a5
          exact ⟨g, e2 _ _ h⟩
        · exact fun e => by rw [e, aa] at haS; cases haS
      obtain ⟨R3, ia3, hR3⟩ := hI3.2.2.1
      have rR3 := hR3.red (by omega)
      refine kC_degreeOf ia3 (fun x hx => by have := rR3 x hx; omega) _ ?_
      rw [hR3.deg (by omega) hl hl2 hF1']
      try simp only [zl32, zl64, i32_add, i32_sub, i32_mul, i32_neg, i64_add, i64_sub, i64_mul, i64_neg, cv_gi, cv_gw, cv_ga, cv_gl, cv_pi, cv_pw, cv_pa, cv_pl, zf_S, zf_i, zf_l, mz1, mz2, mz3, mz4]
      repeat' (first | (exfalso; omega) | (with_reducible refine zb_in ?_ ?_ ?_ ?_; omega; omega; omega) | (with_reducible refine zb_le ?_ ?_ ?_ ?_ (fun _ => ?_) (fun _ => ?_); omega; omega; omega; omega) | (with_reducible refine zb_lt ?_ ?_ ?_ ?_ (fun _ => ?_) (fun _ => ?_); omega; omega; omega; omega) | (with_reducible refine zb_eq ?_ ?_ ?_ ?_ (fun _ => ?_) (fun _ => ?_); omega; omega; omega; omega) | (with_reducible refine zb_leL ?_ ?_ ?_ ?_ (fun _ => ?_) (fun _ => ?_); omega; omega; omega; omega) | (with_reducible refine zb_ltL ?_ ?_ ?_ ?_ (fun _ => ?_) (fun _ => ?_); omega; omega; omega; omega) | (with_reducible refine zb_eqL ?_ ?_ ?_ ?_ (fun _ => ?_) (fun _ => ?_); omega; omega; omega; omega) | (with_reducible refine zb_nz ?_ ?_ ?_ ?_; omega; omega; omega) | (with_reducible refine zb_nzL ?_ ?_ ?_ ?_; omega; omega; omega) | with_reducible refine zb_ite ?_ | with_reducible refine zb_iteL ?_ | ((with_reducible intro y hy); subst hy; try simp only [zl32, zl64, i32_add, i32_sub, i32_mul, i32_neg, i64_add, i64_sub, i64_mul, i64_neg, cv_gi, cv_gw, cv_ga, cv_gl, cv_pi, cv_pw, cv_pa, cv_pl, zf_S, zf_i, zf_l, mz1, mz2, mz3, mz4, zr_ii, zr_iw, zr_ia, zr_il, zr_wi, zr_ww, zr_wa, zr_wl, zr_ai, zr_aw, zr_aa, zr_al, zr_li, zr_lw, zr_la, zr_ll, zw_ii, zw_ww, zw_aa, zw_ll, reduceIte, Nat.reduceEqDiff, if_true, if_false]) | with_reducible refine zb_o1 ?_ | with_reducible refine zb_o2 ?_ | with_reducible refine zb_o3 ?_ | with_reducible refine zb_o4 ?_ | with_reducible refine zb_tr ?_ | exact trivial | with_reducible refine zb_T ?_ | with_reducible refine zb_sp ?_ ?_)
      · refine ih (code + 1) L1 F1 _ S3 _ _ (by omega) hI3 (by omega) ?_ ?_ hrec hbr
        · rw [List.length_append, List.length_singleton]
          omega
        · rw [List.length_append, List.length_singleton]
          omega
      · have hL10 : L1 = 0 := by omega
        subst hL10
        rw [zCd_lt (by omega)] at hbr
        unfold wX0_factorsOf_j149
        exact hbr S3 hI3 rfl
