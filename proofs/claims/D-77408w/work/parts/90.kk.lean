/-! CLASS 11: factorsOf, whole -/
set_option maxRecDepth 100000
theorem kC_degrees {Kc A : Nat → Nat} {S0 : hH} {fa Ls : Nat} {p M : Int} {tr : Option Nat} {La : Nat → Prop} (hA : kInj A La) (o00 : S0 (A 0) = some (kOb A p M tr)) (hK0 : ∃ f, S0 (Kc 0) = some (kQ 3 0 f)) (hI0 : ∀ k, 3 ≤ k → k ≤ 5 → ∃ g, S0 (A k) = some (kI 9 g)) (hfa : S0 fa = none) (hLs : S0 Ls = none) (hp : zpr p) (l : Int) (hl : 0 < l) (hl2 : l < p) (mc ms : Nat) (Q : Nat → hH → Prop) : ∀ (n d L : Nat) (F : Nat → Int) (fs : List zF) (S : hH) (kc nc : Nat), d + n = 6 → 1 ≤ d → d ≤ 5 → kFI Kc A S0 fa Ls p l S L F fs → kc + 3 * (9 - fs.length) ≤ mc → nc + 60 * (9 - fs.length) ≤ ms →
    (∀ S' L' F', kFI Kc A S0 fa Ls p l S' L' F' (zDg p n d L F fs) ∨ (∃ E cap g, kF (kTs A) S0 S' ∧ ((∃ g, S' (A 3) = some (kI 9 g)) ∧ (∃ g, S' (A 4) = some (kI 9 g)) ∧ ∃ g, S' (A 5) = some (kI 9 g)) ∧ kAL Kc S' Ls E (zDg p n d L F fs).length cap g ∧ cap ≤ 10 ∧ (E = Kc 0 ∨ S0 E = none) ∧ kFs (fun q => S0 q = none ∧ q ≠ fa) S' g (zDg p n d L F fs)) → Q Ls S') →
    wX0_factorsOf_l19 Kc mc ms Q (A 0) Ls fa (n + 1) kc nc S (i32 d) := by
  have hp7 : 2 ≤ p ∧ p ≤ 7 := by unfold zpr at hp; omega
  have n0 : ∀ k, 3 ≤ k → k ≤ 5 → A 0 ≠ A k := fun k h1 h2 => hA.ne (by omega) (by omega) (by omega)
  have nK : ∀ k, 3 ≤ k → k ≤ 5 → Kc 0 ≠ A k := fun k h1 h2 => by
    obtain ⟨f, hf⟩ := hK0
    obtain ⟨g, hg⟩ := hI0 k h1 h2
    exact kne2 hf hg (by intro e; cases e)
  intro n
  induction n with
  | zero => intro d L F fs S kc nc h1 h2 h3; omega
  | succ n ih =>
    intro d L F fs S kc nc hdn hd1 hd5 hI hk1 hk2 hq
    have hI' := hI
    obtain ⟨hF, ⟨i3, i4, i5⟩, ⟨R, ia, hR⟩, ⟨E, cap, g, hE, hcap, hE0, hfs⟩, hF1, rF, hL9, hlen⟩ := hI
    have rR := hR.red (by omega)
    have o0 : S (A 0) = some (kOb A p M tr) := hF.at o00 (by
      rintro (h | h | h)
      · exact n0 3 (by omega) (by omega) h
      · exact n0 4 (by omega) (by omega) h
      · exact n0 5 (by omega) (by omega) h)
    have hK : kKc Kc S := by
      obtain ⟨f, hf⟩ := hK0
      exact ⟨f, hF.at hf (by
        rintro (h | h | h)
        · exact nK 3 (by omega) (by omega) h
        · exact nK 4 (by omega) (by omega) h
        · exact nK 5 (by omega) (by omega) h)⟩
    obtain ⟨vL, oL⟩ := hE.1
    rw [wX0_factorsOf_l19]
    refine kC_degreeOf ia (fun x hx => by have := rR x hx; omega) _ ?_
    rw [hR.deg (by omega) hl hl2 hF1]
    try simp only [zl32, zl64, i32_add, i32_sub, i32_mul, i32_neg, i64_add, i64_sub, i64_mul, i64_neg, cv_gi, cv_gw, cv_ga, cv_gl, cv_pi, cv_pw, cv_pa, cv_pl, zf_S, zf_i, zf_l, mz1, mz2, mz3, mz4]
    repeat' (first | (exfalso; omega) | (with_reducible refine zb_in ?_ ?_ ?_ ?_; omega; omega; omega) | (with_reducible refine zb_le ?_ ?_ ?_ ?_ (fun _ => ?_) (fun _ => ?_); omega; omega; omega; omega) | (with_reducible refine zb_lt ?_ ?_ ?_ ?_ (fun _ => ?_) (fun _ => ?_); omega; omega; omega; omega) | (with_reducible refine zb_eq ?_ ?_ ?_ ?_ (fun _ => ?_) (fun _ => ?_); omega; omega; omega; omega) | (with_reducible refine zb_leL ?_ ?_ ?_ ?_ (fun _ => ?_) (fun _ => ?_); omega; omega; omega; omega) | (with_reducible refine zb_ltL ?_ ?_ ?_ ?_ (fun _ => ?_) (fun _ => ?_); omega; omega; omega; omega) | (with_reducible refine zb_eqL ?_ ?_ ?_ ?_ (fun _ => ?_) (fun _ => ?_); omega; omega; omega; omega) | (with_reducible refine zb_nz ?_ ?_ ?_ ?_; omega; omega; omega) | (with_reducible refine zb_nzL ?_ ?_ ?_ ?_; omega; omega; omega) | with_reducible refine zb_ite ?_ | with_reducible refine zb_iteL ?_ | ((with_reducible intro y hy); subst hy; try simp only [zl32, zl64, i32_add, i32_sub, i32_mul, i32_neg, i64_add, i64_sub, i64_mul, i64_neg, cv_gi, cv_gw, cv_ga, cv_gl, cv_pi, cv_pw, cv_pa, cv_pl, zf_S, zf_i, zf_l, mz1, mz2, mz3, mz4, zr_ii, zr_iw, zr_ia, zr_il, zr_wi, zr_ww, zr_wa, zr_wl, zr_ai, zr_aw, zr_aa, zr_al, zr_li, zr_lw, zr_la, zr_ll, zw_ii, zw_ww, zw_aa, zw_ll, reduceIte, Nat.reduceEqDiff, if_true, if_false]) | with_reducible refine zb_o1 ?_ | with_reducible refine zb_o2 ?_ | with_reducible refine zb_o3 ?_ | with_reducible refine zb_o4 ?_ | with_reducible refine zb_tr ?_ | exact trivial | with_reducible refine zb_T ?_ | with_reducible refine zb_sp ?_ ?_)
    · have hL0 : L = 0 := by omega
      subst hL0
      unfold wX0_factorsOf_j149
      rw [zDg_0 _ _ hd1] at hq
      exact hq S 0 F (Or.inl hI')
    · refine kC_degreeOf ia (fun x hx => by have := rR x hx; omega) _ ?_
      rw [hR.deg (by omega) hl hl2 hF1]
      try simp (disch := first | assumption | omega) only [zl32, zl64, i32_add, i32_sub, i32_mul, i32_neg, i64_add, i64_sub, i64_mul, i64_neg, cv_gi, cv_gw, cv_ga, cv_gl, cv_pi, cv_pw, cv_pa, cv_pl, zf_S, zf_i, zf_l, mz1, mz2, mz3, mz4, kn_haI, kn_haJ, kn_haQ, kn_gaI, kn_gaJ, kn_gaQ, kn_hoA, kn_hlen, kn_hfI, kn_hfJ, kn_hfR, kn_hfN, kn_hoI, kn_hoJ, kn_hoR, kn_hoN, kn_hoC, kn_hoP, kn_paI, kn_paJ, kn_paQ, kn_hpF, kuI_ha, kuI_ga, kuI_pa, kuI_hA, kuI_ln, kuB_ha, kuB_ga, kuB_pa, kuB_hA, kuB_ln, kuJ_ha, kuJ_ga, kuJ_pa, kuJ_hA, kuJ_ln, kuQ_ha, kuQ_ga, kuQ_pa, kuQ_hA, kuQ_ln, kuO_fI, kuO_fJ, kuO_fR, kuO_fN, kuO_oI, kuO_oJ, kuO_oR, kuO_oN, kuO_oC, kuO_oP, kuO_pF, kvI_s, kvJ_s, kvR_s, kvN_s, kvN_0, kvN_v, kpI_s, kpJ_s, kpR_s, kpN_s, kpN_0, kpN_v, List.getElem?_cons_zero, List.getElem?_cons_succ, List.set_cons_zero, List.set_cons_succ, List.length_cons, List.length_nil, forall_eq, exists_eq_left', Option.some.injEq, true_and, and_true, reduceIte, Nat.reduceEqDiff, Nat.reduceAdd, Nat.reduceLT, hup_hup, hup_at, eq_self, if_true, if_false, implies_true, true_implies, false_implies, not_true_eq_false, not_false_eq_true, or_true, true_or, i32_10, i32_01, kI_new, kB_new, kJ_new, kI_new2, kB_new2, kJ_new2, kQ_new, kO_new, zkd, zijd, zip1, zip, zim1, i32_natN, ziL, zi_0, zi_1, kO_fI o0, kO_fJ o0, kO_fR o0, kO_fN o0, kO_oI o0, kO_oJ o0, kO_oR o0, kO_oN o0, kO_oC o0, kO_oP o0, kO_pF o0, kO_fI oL, kO_fJ oL, kO_fR oL, kO_fN oL, kO_oI oL, kO_oJ oL, kO_oR oL, kO_oN oL, kO_oC oL, kO_oP oL, kO_pF oL]
      repeat' (first | (exfalso; omega) | (with_reducible refine zb_in ?_ ?_ ?_ ?_; omega; omega; omega) | (with_reducible refine zb_le ?_ ?_ ?_ ?_ (fun _ => ?_) (fun _ => ?_); omega; omega; omega; omega) | (with_reducible refine zb_lt ?_ ?_ ?_ ?_ (fun _ => ?_) (fun _ => ?_); omega; omega; omega; omega) | (with_reducible refine zb_eq ?_ ?_ ?_ ?_ (fun _ => ?_) (fun _ => ?_); omega; omega; omega; omega) | (with_reducible refine zb_leL ?_ ?_ ?_ ?_ (fun _ => ?_) (fun _ => ?_); omega; omega; omega; omega) | (with_reducible refine zb_ltL ?_ ?_ ?_ ?_ (fun _ => ?_) (fun _ => ?_); omega; omega; omega; omega) | (with_reducible refine zb_eqL ?_ ?_ ?_ ?_ (fun _ => ?_) (fun _ => ?_); omega; omega; omega; omega) | (with_reducible refine zb_nz ?_ ?_ ?_ ?_; omega; omega; omega) | (with_reducible refine zb_nzL ?_ ?_ ?_ ?_; omega; omega; omega) | with_reducible refine zb_ite ?_ | with_reducible refine zb_iteL ?_ | ((with_reducible intro y hy); subst hy; try simp only [zl32, zl64, i32_add, i32_sub, i32_mul, i32_neg, i64_add, i64_sub, i64_mul, i64_neg, cv_gi, cv_gw, cv_ga, cv_gl, cv_pi, cv_pw, cv_pa, cv_pl, zf_S, zf_i, zf_l, mz1, mz2, mz3, mz4, zr_ii, zr_iw, zr_ia, zr_il, zr_wi, zr_ww, zr_wa, zr_wl, zr_ai, zr_aw, zr_aa, zr_al, zr_li, zr_lw, zr_la, zr_ll, zw_ii, zw_ww, zw_aa, zw_ll, reduceIte, Nat.reduceEqDiff, if_true, if_false]) | with_reducible refine zb_o1 ?_ | with_reducible refine zb_o2 ?_ | with_reducible refine zb_o3 ?_ | with_reducible refine zb_o4 ?_ | with_reducible refine zb_tr ?_ | exact trivial | with_reducible refine zb_T ?_ | with_reducible refine zb_sp ?_ ?_)
      · have hpw := zpr_pow hp hd1 (show d ≤ 4 by omega)
        rw [i32_64 (by omega) (by omega)]
        refine kC_power p d (by omega) _ ?_
        rw [i64_32]
        obtain ⟨N, hN⟩ : ∃ N : Nat, p ^ d = (N : Int) := ⟨(p ^ d).toNat, by omega⟩
        have hN2 : (p ^ d).toNat = N := by omega
        rw [hN]
        have hdg : zDg p (n + 1) d L F fs = zDg p n (d + 1) (zCd p d N 0 L F fs).1 (zCd p d N 0 L F fs).2.1 (zCd p d N 0 L F fs).2.2 := by
          conv => lhs; unfold zDg
          rw [if_neg (by omega), hN2]
        rw [hdg] at hq
        refine ⟨N + 1, ?_⟩
        refine kC_codes hA o00 hK0 hI0 hfa hLs hp l hl hl2 d hd1 (by omega) mc ms N (by omega) _ _ N 0 L F fs S kc nc (by omega) hI' (by omega) hk1 hk2 (fun S' kc' nc' hI2 hL2 hk3 hk4 => ?_) (fun S' hI2 hL2 => ?_)
        · exact ih (d + 1) _ _ _ S' kc' nc' (by omega) (by omega) (by omega) hI2 hk3 hk4 hq
        · have e : zDg p n (d + 1) (zCd p d N 0 L F fs).1 (zCd p d N 0 L F fs).2.1 (zCd p d N 0 L F fs).2.2 = (zCd p d N 0 L F fs).2.2 := by
            rw [hL2, zDg_0 _ _ (by omega)]
          rw [e] at hq
          exact hq S' _ _ (Or.inl hI2)
      · refine ⟨2, 20, by omega, by omega, ?_⟩
        refine kC_last o0 ia hp l hl hl2 F L hL9 rF hF1 hR 2 20 (by omega) (by omega) _ (fun r a hr ha hra => ?_)
        have hdg : zDg p (n + 1) d L F fs = fs ++ [(L, 1, fun k => if k ≤ L then F k else 0)] := by
          conv => lhs; unfold zDg
          rw [if_pos (by omega), if_neg (by omega)]
        rw [hdg] at hq
        have naS0 : ∀ q, S q = none → S0 q = none := by
          intro q hq
          rcases hz2 : S0 q with _ | y
          · rfl
          · exfalso
            by_cases c : kTs A q
            · obtain ⟨g3, a3⟩ := i3
              obtain ⟨g4, a4⟩ := i4
              obtain ⟨g5, a5⟩ := i5
              rcases c with c | c | c
              · rw [c, a3] at hq; cases hq
              · rw [c, a4] at hq; cases hq
              · rw [c, a5] at hq; cases hq
            · rw [hF q y hz2 c] at hq
              cases hq
        generalize hS2 : hup (hup S a (kI 9 (fun k => if k ≤ L then F k else 0))) r (kO 5 [.ref a, .int (i32 L), .int (i32 1)]) = S2
        have e2 : ∀ q y, S q = some y → S2 q = some y := by
          intro q y hq
          rw [← hS2, hup_ne (kne hq hr), hup_ne (kne hq ha)]
          exact hq
        have r2 : S2 r = some (kO 5 [.ref a, .int (i32 L), .int (i32 1)]) := by rw [← hS2, hup_at]
        have a2 : S2 a = some (kI 9 (fun k => if k ≤ L then F k else 0)) := by rw [← hS2, hup_ne (fun e => hra e.symm), hup_at]
        have hE2 : kAL Kc S2 Ls E fs.length cap g := by
          obtain ⟨⟨v, h1⟩, ⟨fe, h2, h3⟩, h4⟩ := hE
          exact ⟨⟨v, e2 _ _ h1⟩, ⟨fe, e2 _ _ h2, h3⟩, h4⟩
        have hfs2 : kFs (fun q => S0 q = none ∧ q ≠ fa) S2 g fs := hfs.fr (fun q _ => ⟨fun v h => e2 _ _ h, fun v h => e2 _ _ h⟩)
        have hK2 : kKc Kc S2 := by obtain ⟨f, h⟩ := hK; exact ⟨f, e2 _ _ h⟩
        have oL2 := e2 _ _ oL
        try simp (disch := first | assumption | omega) only [zl32, zl64, i32_add, i32_sub, i32_mul, i32_neg, i64_add, i64_sub, i64_mul, i64_neg, cv_gi, cv_gw, cv_ga, cv_gl, cv_pi, cv_pw, cv_pa, cv_pl, zf_S, zf_i, zf_l, mz1, mz2, mz3, mz4, kn_haI, kn_haJ, kn_haQ, kn_gaI, kn_gaJ, kn_gaQ, kn_hoA, kn_hlen, kn_hfI, kn_hfJ, kn_hfR, kn_hfN, kn_hoI, kn_hoJ, kn_hoR, kn_hoN, kn_hoC, kn_hoP, kn_paI, kn_paJ, kn_paQ, kn_hpF, kuI_ha, kuI_ga, kuI_pa, kuI_hA, kuI_ln, kuB_ha, kuB_ga, kuB_pa, kuB_hA, kuB_ln, kuJ_ha, kuJ_ga, kuJ_pa, kuJ_hA, kuJ_ln, kuQ_ha, kuQ_ga, kuQ_pa, kuQ_hA, kuQ_ln, kuO_fI, kuO_fJ, kuO_fR, kuO_fN, kuO_oI, kuO_oJ, kuO_oR, kuO_oN, kuO_oC, kuO_oP, kuO_pF, kvI_s, kvJ_s, kvR_s, kvN_s, kvN_0, kvN_v, kpI_s, kpJ_s, kpR_s, kpN_s, kpN_0, kpN_v, List.getElem?_cons_zero, List.getElem?_cons_succ, List.set_cons_zero, List.set_cons_succ, List.length_cons, List.length_nil, forall_eq, exists_eq_left', Option.some.injEq, true_and, and_true, reduceIte, Nat.reduceEqDiff, Nat.reduceAdd, Nat.reduceLT, hup_hup, hup_at, eq_self, if_true, if_false, implies_true, true_implies, false_implies, not_true_eq_false, not_false_eq_true, or_true, true_or, i32_10, i32_01, kI_new, kB_new, kJ_new, kI_new2, kB_new2, kJ_new2, kQ_new, kO_new, zkd, zijd, zip1, zip, zim1, i32_natN, ziL, zi_0, zi_1, kO_fI oL2, kO_fJ oL2, kO_fR oL2, kO_fN oL2, kO_oI oL2, kO_oJ oL2, kO_oR oL2, kO_oN oL2, kO_oC oL2, kO_oP oL2, kO_pF oL2]
        refine ⟨1, 30, by omega, by omega, ?_⟩
        refine kC_add hE2 hK2 r2 kCl_5 (Or.inl (by omega)) (by omega) 1 30 (by omega) (by omega) _ (fun S3 E3 cap3 hE3 hc3 hE31 hfr3 => ?_)
        have hI3 : kFI Kc A S0 fa Ls p l S3 0 (fun _ => 1) (fs ++ [(L, 1, fun k => if k ≤ L then F k else 0)]) ∨ True := Or.inr trivial
        unfold wX0_factorsOf_j149
        refine hq S3 0 (fun _ => 1) (Or.inr ⟨E3, cap3, kap fs.length r g, ?_, ?_, ?_, by omega, ?_, ?_⟩)
        · have oLs : Ls = Ls := rfl
          intro q y hq hm
          obtain ⟨fe, qE, _⟩ := hE2.2.1
          refine hfr3 q y (e2 _ _ (hF q y hq hm)) (fun e => by rw [e, hLs] at hq; cases hq) ?_
          by_cases c : q = Kc 0
          · exact Or.inr c
          · refine Or.inl (fun e => ?_)
            rcases hE0 with h | h
            · exact c (e.trans h)
            · rw [e, h] at hq; cases hq
        · obtain ⟨fe, qE, _⟩ := hE2.2.1
          have kI' : ∀ q v, S2 q = some (kI 9 v) → S3 q = some (kI 9 v) := fun q v h => hfr3 q _ h (kne2 h oL2 (by intro e; cases e)) (Or.inl (kne2 h qE (by intro e; cases e)))
          obtain ⟨g3, a3⟩ := i3
          obtain ⟨g4, a4⟩ := i4
          obtain ⟨g5, a5⟩ := i5
          exact ⟨⟨g3, kI' _ _ (e2 _ _ a3)⟩, ⟨g4, kI' _ _ (e2 _ _ a4)⟩, ⟨g5, kI' _ _ (e2 _ _ a5)⟩⟩
        · rw [List.length_append, List.length_singleton]
          exact hE3
        · rcases hE31 with h | h
          · rw [h]; exact hE0
          · refine Or.inr (naS0 _ ?_)
            rcases hz : S E3 with _ | y
            · rfl
            · rw [e2 _ _ hz] at h; cases h
        · obtain ⟨fe, qE, _⟩ := hE2.2.1
          have kI' : ∀ q v, S2 q = some (kI 9 v) → S3 q = some (kI 9 v) := fun q v h => hfr3 q _ h (kne2 h oL2 (by intro e; cases e)) (Or.inl (kne2 h qE (by intro e; cases e)))
          have kO' : ∀ q v, S2 q = some (kO 5 v) → S3 q = some (kO 5 v) := fun q v h => hfr3 q _ h (kne2 h oL2 (by intro e; cases e)) (Or.inl (kne2 h qE (by intro e; cases e)))
          have raf : r ≠ fa := kne2 r2 (e2 _ _ ia) (by intro e; cases e)
          have aaf : a ≠ fa := fun e => by rw [e, ia] at ha; cases ha
          intro i y hy
          rw [List.getElem?_append] at hy
          by_cases c : i < fs.length
          · rw [if_pos c] at hy
            rw [kap_ne _ _ _ (by omega)]
            obtain ⟨h1, b, h2, h3, h4⟩ := hfs2 i y hy
            exact ⟨h1, b, h2, kO' _ _ h3, kI' _ _ h4⟩
          · rw [if_neg c] at hy
            have hi : i - fs.length = 0 := by
              have := (List.getElem?_eq_some_iff.mp hy).1
              rw [List.length_singleton] at this
              omega
            rw [hi] at hy
            cases hy
            rw [kap_at _ _ _ (by omega)]
            exact ⟨⟨naS0 r hr, raf⟩, a, ⟨naS0 a ha, aaf⟩, kO' _ _ r2, kI' _ _ a2⟩
theorem kC_factorsOf {Kc A : Nat → Nat} {S : hH} {p M : Int} {tr : Option Nat} {La : Nat → Prop} (hA : kInj A La) (o0 : S (A 0) = some (kOb A p M tr)) (hK0 : kKc Kc S) (hI0 : ∀ k, 3 ≤ k → k ≤ 5 → ∃ g, S (A k) = some (kI 9 g)) (hp : zpr p) {a : Nat} {f : Nat → Int} (ia : S a = some (kI 9 f)) (rf : zred p 9 f) (hdeg : 0 ≤ degN f 9) (mc ms : Nat) (hmc : 40 ≤ mc) (hms : 800 ≤ ms) (Q : Nat → hH → Prop)
    (q : ∀ S1 r E cap g, kF (kTs A) S S1 → (∀ k, 3 ≤ k → k ≤ 5 → ∃ g, S1 (A k) = some (kI 9 g)) → S r = none → kAL Kc S1 r E (zFc p f).length cap g → cap ≤ 10 → (E = Kc 0 ∨ S E = none) → kFs (fun q => S q = none) S1 g (zFc p f) → Q r S1) : wX0_factorsOf Kc mc ms S (A 0) a Q := by
  have hp7 : 2 ≤ p ∧ p ≤ 7 := by unfold zpr at hp; omega
  have hdl := degN_lt f 9
  obtain ⟨L, hL⟩ : ∃ L : Nat, degN f 9 = L := ⟨(degN f 9).toNat, by omega⟩
  have hl0 := degN_at f 9 L hL
  have hlr := rf L (by omega)
  have hi := zinv_ok hp (v := f L) (by omega) hlr.2
  have hzF : zFc p f = zDg p 5 1 L (zmnc p L f) [] := by
    unfold zFc
    rw [hL, Int.toNat_natCast]
  unfold wX0_factorsOf
  refine ⟨by omega, by omega, ?_⟩
  intro Ls hLs
  rw [kO_new]
  unfold wJ20_init wJ19_init wJ18_init
  try simp (disch := first | assumption | omega) only [zl32, zl64, i32_add, i32_sub, i32_mul, i32_neg, i64_add, i64_sub, i64_mul, i64_neg, cv_gi, cv_gw, cv_ga, cv_gl, cv_pi, cv_pw, cv_pa, cv_pl, zf_S, zf_i, zf_l, mz1, mz2, mz3, mz4, kn_haI, kn_haJ, kn_haQ, kn_gaI, kn_gaJ, kn_gaQ, kn_hoA, kn_hlen, kn_hfI, kn_hfJ, kn_hfR, kn_hfN, kn_hoI, kn_hoJ, kn_hoR, kn_hoN, kn_hoC, kn_hoP, kn_paI, kn_paJ, kn_paQ, kn_hpF, kuI_ha, kuI_ga, kuI_pa, kuI_hA, kuI_ln, kuB_ha, kuB_ga, kuB_pa, kuB_hA, kuB_ln, kuJ_ha, kuJ_ga, kuJ_pa, kuJ_hA, kuJ_ln, kuQ_ha, kuQ_ga, kuQ_pa, kuQ_hA, kuQ_ln, kuO_fI, kuO_fJ, kuO_fR, kuO_fN, kuO_oI, kuO_oJ, kuO_oR, kuO_oN, kuO_oC, kuO_oP, kuO_pF, kvI_s, kvJ_s, kvR_s, kvN_s, kvN_0, kvN_v, kpI_s, kpJ_s, kpR_s, kpN_s, kpN_0, kpN_v, List.getElem?_cons_zero, List.getElem?_cons_succ, List.set_cons_zero, List.set_cons_succ, List.length_cons, List.length_nil, forall_eq, exists_eq_left', Option.some.injEq, true_and, and_true, reduceIte, Nat.reduceEqDiff, Nat.reduceAdd, Nat.reduceLT, hup_hup, hup_at, eq_self, if_true, if_false, implies_true, true_implies, false_implies, not_true_eq_false, not_false_eq_true, or_true, true_or, i32_10, i32_01, kI_new, kB_new, kJ_new, kI_new2, kB_new2, kJ_new2, kQ_new, kO_new, zkd, zijd, zip1, zip, zim1, i32_natN, ziL, zi_0, zi_1]
  have nLa : a ≠ Ls := kne ia hLs
  refine ⟨9, fun k => i32 (kz 9 f k), by rw [hup_ne nLa]; exact ia, by omega, by omega, ?_⟩
  intro fa hfa
  have nfL : fa ≠ Ls := fun e => by rw [e, hup_at] at hfa; cases hfa
  have hfaS : S fa = none := by rw [hup_ne nfL] at hfa; exact hfa
  refine ⟨⟨0, _, hup_at _ _ _, by decide, rfl⟩, 6, ?_⟩
  obtain ⟨fK, hK⟩ := hK0
  have e2 : ∀ q y, S q = some y → (hup (hup S Ls (kO 16 [.int (i32 0), .ref (Kc 0), .int (i32 0)])) fa (.inl (0, (9, .inl (fun k => i32 (kz 9 f k)))))) q = some y := by
    intro q y hq
    rw [hup_ne (kne hq hfaS), hup_ne (kne hq hLs)]
    exact hq
  refine kC_degrees hA o0 ⟨fK, hK⟩ hI0 hfaS hLs hp (f L) (by omega) hlr.2 mc ms Q 5 1 L (zmnc p L f) [] _ _ _ (by omega) (by omega) (by omega) ?_ ?_ ?_ ?_
  · refine ⟨fun q y hq _ => e2 q y hq, ⟨?_, ?_, ?_⟩, ⟨f, hup_at _ _ _, ?_, ?_⟩, ⟨Kc 0, 0, fun _ => 0, ?_, by omega, Or.inl rfl, fun i x hx => by cases hx⟩, ?_, zred_zmnc (by omega) rf, by omega, by rw [List.length_nil]; omega⟩
    · obtain ⟨g, h⟩ := hI0 3 (by omega) (by omega)
      exact ⟨g, e2 _ _ h⟩
    · obtain ⟨g, h⟩ := hI0 4 (by omega) (by omega)
      exact ⟨g, e2 _ _ h⟩
    · obtain ⟨g, h⟩ := hI0 5 (by omega) (by omega)
      exact ⟨g, e2 _ _ h⟩
    · intro x hx
      unfold zmnc
      rw [if_pos hx]
      have r := rf x (by omega)
      rw [Int.mul_emod, ze_ee, ← Int.mul_emod, show f L * (f x * zinv p (f L)) = zinv p (f L) * f L * f x from by rw [Int.mul_comm (f x), ← Int.mul_assoc, Int.mul_comm (f L)], Int.mul_emod, hi.2.2]
      rw [Int.one_mul, ze_ee]
      exact (Int.emod_eq_of_lt r.1 r.2).symm
    · intro x h1 h2
      exact degN_hi f 9 x (by omega) h2
    · refine ⟨⟨i32 0, ?_⟩, ⟨fK, e2 _ _ hK, fun i hi => by rw [List.length_nil] at hi; omega⟩, by rw [List.length_nil]; omega, by omega, Or.inl ⟨rfl, rfl⟩⟩
      rw [hup_ne (fun e => nfL e.symm), hup_at]
      rfl
    · unfold zmnc
      rw [if_pos (Nat.le_refl _), Int.mul_comm]
      exact hi.2.2
  · rw [List.length_nil]; omega
  · rw [List.length_nil]; omega
  · intro S' L' F' hh
    rw [← hzF] at hh
    rcases hh with h | ⟨E, cap, g, hF, ⟨i3, i4, i5⟩, hE, hcap, hE0, hfs⟩
    · obtain ⟨hF, ⟨i3, i4, i5⟩, _, ⟨E, cap, g, hE, hcap, hE0, hfs⟩, _⟩ := h
      refine q S' Ls E cap g hF (fun k h1 h2 => ?_) hLs hE hcap hE0 (hfs.mono (fun q hq => hq.1))
      have : k = 3 ∨ k = 4 ∨ k = 5 := by omega
      rcases this with rfl | rfl | rfl
      · exact i3
      · exact i4
      · exact i5
    · refine q S' Ls E cap g hF (fun k h1 h2 => ?_) hLs hE hcap hE0 (hfs.mono (fun q hq => hq.1))
      have : k = 3 ∨ k = 4 ∨ k = 5 := by omega
      rcases this with rfl | rfl | rfl
      · exact i3
      · exact i4
      · exact i5
