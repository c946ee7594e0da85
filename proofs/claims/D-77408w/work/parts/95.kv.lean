/-! CLASS 22: asNumbers, nextKey -/
set_option maxRecDepth 100000
theorem ze_scal2 (p l a b G : Int) : (l * a % p + l * b % p * G) % p = l * ((a + b * G) % p) % p := by
  have e1 : (l * a % p + l * b % p * G) % p = (l * a + l * b * G) % p := by
    rw [Int.add_emod, ze_ee, Int.mul_emod (l * b % p) G, ze_ee, ← Int.mul_emod, ← Int.add_emod]
  have e2 : l * ((a + b * G) % p) % p = l * (a + b * G) % p := by
    rw [Int.mul_emod, ze_ee, ← Int.mul_emod]
  rw [e1, e2, Int.mul_add, Int.mul_assoc]
theorem zpm_sc {M l : Int} {F G g : Nat → Int} (h : ∀ k, k < 9 → F k = l * G k % M) : ∀ k, k < 9 → zpm M F g k = l * zpm M G g k % M := by
  intro k hk
  have key : ∀ n, n ≤ k + 1 → zcv M F g k n = l * zcv M G g k n % M := by
    intro n
    induction n with
    | zero =>
      intro _
      show (0 : Int) = l * 0 % M
      rw [Int.mul_zero, Int.zero_emod]
    | succ n ih =>
      intro hn
      show (zcv M F g k n + F n * g (k - n)) % M = l * ((zcv M G g k n + G n * g (k - n)) % M) % M
      rw [ih (by omega), h n (by omega)]
      exact ze_scal2 M l _ _ _
  exact key (k + 1) (Nat.le_refl _)
/-- a monomial as numbers -/
def zls (M p : Int) (pa : zP) (sm : Nat → Int) : Nat → Nat → Int
  | 0 => fun k => if k = 0 then p ^ (sm 0).toNat % M else 0
  | n + 1 => zit (fun f => zpm M f (zpK pa (n + 1))) (sm (n + 1)).toNat (zls M p pa sm n)
theorem zit_sc {M l : Int} {g : Nat → Int} : ∀ (n : Nat) (F G : Nat → Int), (∀ k, k < 9 → F k = l * G k % M) → ∀ k, k < 9 → zit (fun f => zpm M f g) n F k = l * zit (fun f => zpm M f g) n G k % M := by
  intro n
  induction n with
  | zero => intro F G h; exact h
  | succ n ih =>
    intro F G h
    unfold zit
    exact ih _ _ (zpm_sc h)
theorem zlv_ls {M p : Int} (pa : zP) (sm : Nat → Int) (root : Int) : ∀ n k, k < 9 → zlv M p pa sm root n k = root * zls M p pa sm n k % M := by
  intro n
  induction n with
  | zero =>
    intro k hk
    unfold zlv zls
    have key : ∀ (n j : Nat) (f : Nat → Int), (∀ k, k < 9 → f k = if k = 0 then root * (p ^ j) % M else 0) → ∀ k, k < 9 → zit (fun f k => f k * p % M) n f k = if k = 0 then root * (p ^ (j + n)) % M else 0 := by
      intro n
      induction n with
      | zero => intro j f h; exact h
      | succ n ih =>
        intro j f h k hk
        unfold zit
        rw [show j + (n + 1) = (j + 1) + n from by omega]
        refine ih (j + 1) _ (fun k hk => ?_) k hk
        show f k * p % M = _
        rw [h k hk]
        by_cases c : k = 0
        · rw [if_pos c, if_pos c, Int.mul_emod, ze_ee, ← Int.mul_emod, Int.mul_assoc, Int.pow_succ]
        · rw [if_neg c, if_neg c, Int.zero_mul, Int.zero_emod]
    rw [key (sm 0).toNat 0 (zone M root) (fun k hk => by
      unfold zone
      rw [Int.pow_zero, Int.mul_one]) k hk, Nat.zero_add]
    by_cases c : k = 0
    · rw [if_pos c, if_pos c, Int.mul_emod root (p ^ (sm 0).toNat % M), ze_ee, ← Int.mul_emod]
    · rw [if_neg c, if_neg c, Int.mul_zero, Int.zero_emod]
  | succ n ih =>
    intro k hk
    unfold zlv zls
    exact zit_sc _ _ _ ih k hk
theorem zit_redk {M : Int} (hM : 0 < M) {g : Nat → Int} : ∀ (n : Nat) (F : Nat → Int), zred M 9 F → zred M 9 (zit (fun f => zpm M f g) n F) := by
  intro n
  induction n with
  | zero => intro F h; exact h
  | succ n ih =>
    intro F h
    unfold zit
    exact ih _ (zpm_red hM)
theorem zls_red {M p : Int} (hM : 0 < M) (pa : zP) (sm : Nat → Int) : ∀ n, zred M 9 (zls M p pa sm n) := by
  intro n
  induction n with
  | zero =>
    intro k hk
    unfold zls
    by_cases c : k = 0
    · rw [if_pos c]
      exact ⟨Int.emod_nonneg _ (by omega), Int.emod_lt_of_pos _ hM⟩
    · rw [if_neg c]
      omega
  | succ n ih =>
    unfold zls
    exact zit_redk hM _ _ ih
theorem kC_power2 (b : Int) (k : Int) (hk : k < 1000) (hk2 : -2147483648 ≤ k) (Q : Int64 → Prop) (q : Q (i64 (b ^ k.toNat))) : wX0_power (i64 b) (i32 k) Q := by
  by_cases c : 0 ≤ k
  · obtain ⟨n, rfl⟩ : ∃ n : Nat, k = n := ⟨k.toNat, by omega⟩
    rw [Int.toNat_natCast] at q
    exact kC_power b n (by omega) Q q
  · rw [show k.toNat = 0 from by omega, Int.pow_zero] at q
    unfold wX0_power
    refine ⟨1, ?_⟩
    rw [wX0_power_l5]
    try simp only [zl32, zl64, i32_add, i32_sub, i32_mul, i32_neg, i64_add, i64_sub, i64_mul, i64_neg, cv_gi, cv_gw, cv_ga, cv_gl, cv_pi, cv_pw, cv_pa, cv_pl, zf_S, zf_i, zf_l, mz1, mz2, mz3, mz4]
    repeat' (first | (exfalso; omega) | (with_reducible refine zb_in ?_ ?_ ?_ ?_; omega; omega; omega) | (with_reducible refine zb_le ?_ ?_ ?_ ?_ (fun _ => ?_) (fun _ => ?_); omega; omega; omega; omega) | (with_reducible refine zb_lt ?_ ?_ ?_ ?_ (fun _ => ?_) (fun _ => ?_); omega; omega; omega; omega) | (with_reducible refine zb_eq ?_ ?_ ?_ ?_ (fun _ => ?_) (fun _ => ?_); omega; omega; omega; omega) | (with_reducible refine zb_leL ?_ ?_ ?_ ?_ (fun _ => ?_) (fun _ => ?_); omega; omega; omega; omega) | (with_reducible refine zb_ltL ?_ ?_ ?_ ?_ (fun _ => ?_) (fun _ => ?_); omega; omega; omega; omega) | (with_reducible refine zb_eqL ?_ ?_ ?_ ?_ (fun _ => ?_) (fun _ => ?_); omega; omega; omega; omega) | (with_reducible refine zb_nz ?_ ?_ ?_ ?_; omega; omega; omega) | (with_reducible refine zb_nzL ?_ ?_ ?_ ?_; omega; omega; omega) | with_reducible refine zb_ite ?_ | with_reducible refine zb_iteL ?_ | ((with_reducible intro y hy); subst hy; try simp only [zl32, zl64, i32_add, i32_sub, i32_mul, i32_neg, i64_add, i64_sub, i64_mul, i64_neg, cv_gi, cv_gw, cv_ga, cv_gl, cv_pi, cv_pw, cv_pa, cv_pl, zf_S, zf_i, zf_l, mz1, mz2, mz3, mz4, zr_ii, zr_iw, zr_ia, zr_il, zr_wi, zr_ww, zr_wa, zr_wl, zr_ai, zr_aw, zr_aa, zr_al, zr_li, zr_lw, zr_la, zr_ll, zw_ii, zw_ww, zw_aa, zw_ll, reduceIte, Nat.reduceEqDiff, if_true, if_false]) | with_reducible refine zb_o1 ?_ | with_reducible refine zb_o2 ?_ | with_reducible refine zb_o3 ?_ | with_reducible refine zb_o4 ?_ | with_reducible refine zb_tr ?_ | exact trivial | with_reducible refine zb_T ?_ | with_reducible refine zb_sp ?_ ?_)
    exact q
theorem zpw_lim {p M : Int} (hp : zpr p) (hM : M = p ^ zlim p) (t : Nat) : p ^ t % M = if (zlim p) ≤ t then 0 else p ^ t := by
  have hp2 : 2 ≤ p := by unfold zpr at hp; omega
  by_cases c : zlim p ≤ t
  · rw [if_pos c, hM]
    refine Int.emod_eq_zero_of_dvd ?_
    rw [show t = zlim p + (t - zlim p) from by omega, Int.pow_add]
    exact Int.dvd_mul_right _ _
  · rw [if_neg c]
    have h0 : 0 < p ^ t := Int.pow_pos (by omega)
    have h1 : p ^ t < p ^ zlim p := by
      have key : ∀ n, p ^ t < p ^ (t + (n + 1)) := by
        intro n
        induction n with
        | zero =>
          rw [Int.pow_succ]
          have : p ^ t * 2 ≤ p ^ t * p := Int.mul_le_mul_of_nonneg_left hp2 (by omega)
          omega
        | succ n ih =>
          rw [show t + (n + 1 + 1) = (t + (n + 1)) + 1 from rfl, Int.pow_succ]
          have h3 : 0 < p ^ (t + (n + 1)) := Int.pow_pos (by omega)
          have : p ^ (t + (n + 1)) * 2 ≤ p ^ (t + (n + 1)) * p := Int.mul_le_mul_of_nonneg_left hp2 (by omega)
          omega
      have := key (zlim p - t - 1)
      rw [show t + (zlim p - t - 1 + 1) = zlim p from by omega] at this
      exact this
    rw [hM]
    exact Int.emod_eq_of_lt (by omega) h1
def kN : Nat → Prop := fun _ => False
theorem kC_asNumbers {S : hH} {A : Nat → Nat} {p M : Int} {tr : Option Nat} (o0 : S (A 0) = some (kOb A p M tr)) (hp : zpr p) (hMp : M = p ^ zlim p) (hM : 1 < M) (hM2 : M < 536870912) {T fa L1 L2 P : Nat} {dg hv0 : Int} {hd : Option Nat} (oT : S T = some (kTo fa dg L1 L2 P hd hv0 (A 0))) {m : Nat → Prop} {w sd : Nat → Nat} {pa : zP} (hW : kWy m S w sd pa) (hv : zPv M pa) {mo tm : Nat} {rr : Int} {sm : Nat → Int} (om : S mo = some (kMo tm rr)) (im : S tm = some (kI 7 sm)) (h0 : -1000000 ≤ sm 0 ∧ sm 0 ≤ 1000000) (hsm : ∀ q, 1 ≤ q → 0 ≤ sm q ∧ sm q ≤ 3) (mc ms : Nat) (hmc : 16 ≤ mc) (hms : 144 ≤ ms) (Q : Nat → hH → Prop)
    (q : ∀ S1 r, S r = none → kF kN S S1 → S1 r = some (kJ 9 (zls M p pa sm (zpL pa - 1))) → Q r S1) : wX6_asNumbers mc ms S T (w (zpL pa)) mo Q := by
  have hp7 : 2 ≤ p ∧ p ≤ 7 := by unfold zpr at hp; omega
  have hL6 := hv.2.1
  have hL1 := hv.1
  have hlim : 10 ≤ zlim p ∧ zlim p ≤ 28 := by unfold zlim; unfold zpr at hp; rcases hp with rfl | rfl | rfl | rfl <;> decide
  have L60 : ∀ (k : Nat), 1 ≤ k → k < zpL pa → ∀ (rec48 : Nat → Nat → hH → Nat → Int32 → Prop) (n i : Nat) (f : Nat → Int) (S1 : hH) (g kc nc : Nat), (i : Int) + n = sm k → zred M 9 f → kF kN S S1 → S g = none → S1 g = some (kJ 9 f) → kc + n ≤ mc → nc + 9 * n ≤ ms →
      (∀ S2 g2, kF kN S S2 → S g2 = none → S2 g2 = some (kJ 9 (zit (fun f => zpm M f (zpK pa k)) n f)) → rec48 (kc + n) (nc + 9 * n) S2 g2 (i32 ((k : Int) + 1))) →
      wX6_asNumbers_l60 mc ms rec48 Q T (w (zpL pa)) mo (i32 k) (n + 1) kc nc S1 g (i32 i) := by
    intro k hk1 hk2 rec48 n
    induction n with
    | zero =>
      intro i f S1 g kc nc hi rf hF hg jg hb1 hb2 hrec
      have om1 := hF.at om (fun h => h)
      have im1 := hF.at im (fun h => h)
      have := hsm k hk1
      rw [wX6_asNumbers_l60]
      try simp (disch := first | assumption | omega) only [zl32, zl64, i32_add, i32_sub, i32_mul, i32_neg, i64_add, i64_sub, i64_mul, i64_neg, cv_gi, cv_gw, cv_ga, cv_gl, cv_pi, cv_pw, cv_pa, cv_pl, zf_S, zf_i, zf_l, mz1, mz2, mz3, mz4, kn_haI, kn_haJ, kn_haQ, kn_gaI, kn_gaJ, kn_gaQ, kn_hoA, kn_hlen, kn_hfI, kn_hfJ, kn_hfR, kn_hfN, kn_hoI, kn_hoJ, kn_hoR, kn_hoN, kn_hoC, kn_hoP, kn_paI, kn_paJ, kn_paQ, kn_hpF, kuI_ha, kuI_ga, kuI_pa, kuI_hA, kuI_ln, kuB_ha, kuB_ga, kuB_pa, kuB_hA, kuB_ln, kuJ_ha, kuJ_ga, kuJ_pa, kuJ_hA, kuJ_ln, kuQ_ha, kuQ_ga, kuQ_pa, kuQ_hA, kuQ_ln, kuO_fI, kuO_fJ, kuO_fR, kuO_fN, kuO_oI, kuO_oJ, kuO_oR, kuO_oN, kuO_oC, kuO_oP, kuO_pF, kvI_s, kvJ_s, kvR_s, kvN_s, kvN_0, kvN_v, kpI_s, kpJ_s, kpR_s, kpN_s, kpN_0, kpN_v, List.getElem?_cons_zero, List.getElem?_cons_succ, List.set_cons_zero, List.set_cons_succ, List.length_cons, List.length_nil, forall_eq, exists_eq_left', Option.some.injEq, true_and, and_true, reduceIte, Nat.reduceEqDiff, Nat.reduceAdd, Nat.reduceLT, hup_hup, hup_at, eq_self, if_true, if_false, implies_true, true_implies, false_implies, not_true_eq_false, not_false_eq_true, or_true, true_or, i32_10, i32_01, kI_new, kB_new, kJ_new, kI_new2, kB_new2, kJ_new2, kQ_new, kO_new, zkd, zijd, zip1, zip, zim1, i32_natN, ziL, zi_0, zi_1, kO_fI om1, kO_fJ om1, kO_fR om1, kO_fN om1, kO_oI om1, kO_oJ om1, kO_oR om1, kO_oN om1, kO_oC om1, kO_oP om1, kO_pF om1, kI_ha im1, kI_ga im1, kI_pa im1, kI_hA im1, kI_ln im1]
      repeat' (first | (exfalso; omega) | (with_reducible refine zb_in ?_ ?_ ?_ ?_; omega; omega; omega) | (with_reducible refine zb_le ?_ ?_ ?_ ?_ (fun _ => ?_) (fun _ => ?_); omega; omega; omega; omega) | (with_reducible refine zb_lt ?_ ?_ ?_ ?_ (fun _ => ?_) (fun _ => ?_); omega; omega; omega; omega) | (with_reducible refine zb_eq ?_ ?_ ?_ ?_ (fun _ => ?_) (fun _ => ?_); omega; omega; omega; omega) | (with_reducible refine zb_leL ?_ ?_ ?_ ?_ (fun _ => ?_) (fun _ => ?_); omega; omega; omega; omega) | (with_reducible refine zb_ltL ?_ ?_ ?_ ?_ (fun _ => ?_) (fun _ => ?_); omega; omega; omega; omega) | (with_reducible refine zb_eqL ?_ ?_ ?_ ?_ (fun _ => ?_) (fun _ => ?_); omega; omega; omega; omega) | (with_reducible refine zb_nz ?_ ?_ ?_ ?_; omega; omega; omega) | (with_reducible refine zb_nzL ?_ ?_ ?_ ?_; omega; omega; omega) | with_reducible refine zb_ite ?_ | with_reducible refine zb_iteL ?_ | ((with_reducible intro y hy); subst hy; try simp only [zl32, zl64, i32_add, i32_sub, i32_mul, i32_neg, i64_add, i64_sub, i64_mul, i64_neg, cv_gi, cv_gw, cv_ga, cv_gl, cv_pi, cv_pw, cv_pa, cv_pl, zf_S, zf_i, zf_l, mz1, mz2, mz3, mz4, zr_ii, zr_iw, zr_ia, zr_il, zr_wi, zr_ww, zr_wa, zr_wl, zr_ai, zr_aw, zr_aa, zr_al, zr_li, zr_lw, zr_la, zr_ll, zw_ii, zw_ww, zw_aa, zw_ll, reduceIte, Nat.reduceEqDiff, if_true, if_false]) | with_reducible refine zb_o1 ?_ | with_reducible refine zb_o2 ?_ | with_reducible refine zb_o3 ?_ | with_reducible refine zb_o4 ?_ | with_reducible refine zb_tr ?_ | exact trivial | with_reducible refine zb_T ?_ | with_reducible refine zb_sp ?_ ?_)
      exact hrec S1 g hF hg jg
    | succ n ih =>
      intro i f S1 g kc nc hi rf hF hg jg hb1 hb2 hrec
      have om1 := hF.at om (fun h => h)
      have im1 := hF.at im (fun h => h)
      have oT1 := hF.at oT (fun h => h)
      have o01 := hF.at o0 (fun h => h)
      have hWS := hW.G (hF.G (m := m) (fun q h => h.elim))
      obtain ⟨rootL', mfL', nuL', kaL', woL', ptL', slL', fiL', ixL', oL', _, _⟩ := hWS.1 (zpL pa) hv.1 (Nat.le_refl _)
      have oL1' := oL'.1
      obtain ⟨rootK', mfK', nuK', kaK', woK', ptK', slK', fiK', ixK', oK', jK', _⟩ := hWS.1 k hk1 (by omega)
      have oK1' := oK'.1
      have := hsm k hk1
      rw [wX6_asNumbers_l60]
      try simp (disch := first | assumption | omega) only [zl32, zl64, i32_add, i32_sub, i32_mul, i32_neg, i64_add, i64_sub, i64_mul, i64_neg, cv_gi, cv_gw, cv_ga, cv_gl, cv_pi, cv_pw, cv_pa, cv_pl, zf_S, zf_i, zf_l, mz1, mz2, mz3, mz4, kn_haI, kn_haJ, kn_haQ, kn_gaI, kn_gaJ, kn_gaQ, kn_hoA, kn_hlen, kn_hfI, kn_hfJ, kn_hfR, kn_hfN, kn_hoI, kn_hoJ, kn_hoR, kn_hoN, kn_hoC, kn_hoP, kn_paI, kn_paJ, kn_paQ, kn_hpF, kuI_ha, kuI_ga, kuI_pa, kuI_hA, kuI_ln, kuB_ha, kuB_ga, kuB_pa, kuB_hA, kuB_ln, kuJ_ha, kuJ_ga, kuJ_pa, kuJ_hA, kuJ_ln, kuQ_ha, kuQ_ga, kuQ_pa, kuQ_hA, kuQ_ln, kuO_fI, kuO_fJ, kuO_fR, kuO_fN, kuO_oI, kuO_oJ, kuO_oR, kuO_oN, kuO_oC, kuO_oP, kuO_pF, kvI_s, kvJ_s, kvR_s, kvN_s, kvN_0, kvN_v, kpI_s, kpJ_s, kpR_s, kpN_s, kpN_0, kpN_v, List.getElem?_cons_zero, List.getElem?_cons_succ, List.set_cons_zero, List.set_cons_succ, List.length_cons, List.length_nil, forall_eq, exists_eq_left', Option.some.injEq, true_and, and_true, reduceIte, Nat.reduceEqDiff, Nat.reduceAdd, Nat.reduceLT, hup_hup, hup_at, eq_self, if_true, if_false, implies_true, true_implies, false_implies, not_true_eq_false, not_false_eq_true, or_true, true_or, i32_10, i32_01, kI_new, kB_new, kJ_new, kI_new2, kB_new2, kJ_new2, kQ_new, kO_new, zkd, zijd, zip1, zip, zim1, i32_natN, ziL, zi_0, zi_1, kO_fI om1, kO_fJ om1, kO_fR om1, kO_fN om1, kO_oI om1, kO_oJ om1, kO_oR om1, kO_oN om1, kO_oC om1, kO_oP om1, kO_pF om1, kI_ha im1, kI_ga im1, kI_pa im1, kI_hA im1, kI_ln im1, kO_fI oT1, kO_fJ oT1, kO_fR oT1, kO_fN oT1, kO_oI oT1, kO_oJ oT1, kO_oR oT1, kO_oN oT1, kO_oC oT1, kO_oP oT1, kO_pF oT1, kO_fI oL1', kO_fJ oL1', kO_fR oL1', kO_fN oL1', kO_oI oL1', kO_oJ oL1', kO_oR oL1', kO_oN oL1', kO_oC oL1', kO_oP oL1', kO_pF oL1']
      repeat' (first | (exfalso; omega) | (with_reducible refine zb_in ?_ ?_ ?_ ?_; omega; omega; omega) | (with_reducible refine zb_le ?_ ?_ ?_ ?_ (fun _ => ?_) (fun _ => ?_); omega; omega; omega; omega) | (with_reducible refine zb_lt ?_ ?_ ?_ ?_ (fun _ => ?_) (fun _ => ?_); omega; omega; omega; omega) | (with_reducible refine zb_eq ?_ ?_ ?_ ?_ (fun _ => ?_) (fun _ => ?_); omega; omega; omega; omega) | (with_reducible refine zb_leL ?_ ?_ ?_ ?_ (fun _ => ?_) (fun _ => ?_); omega; omega; omega; omega) | (with_reducible refine zb_ltL ?_ ?_ ?_ ?_ (fun _ => ?_) (fun _ => ?_); omega; omega; omega; omega) | (with_reducible refine zb_eqL ?_ ?_ ?_ ?_ (fun _ => ?_) (fun _ => ?_); omega; omega; omega; omega) | (with_reducible refine zb_nz ?_ ?_ ?_ ?_; omega; omega; omega) | (with_reducible refine zb_nzL ?_ ?_ ?_ ?_; omega; omega; omega) | with_reducible refine zb_ite ?_ | with_reducible refine zb_iteL ?_ | ((with_reducible intro y hy); subst hy; try simp only [zl32, zl64, i32_add, i32_sub, i32_mul, i32_neg, i64_add, i64_sub, i64_mul, i64_neg, cv_gi, cv_gw, cv_ga, cv_gl, cv_pi, cv_pw, cv_pa, cv_pl, zf_S, zf_i, zf_l, mz1, mz2, mz3, mz4, zr_ii, zr_iw, zr_ia, zr_il, zr_wi, zr_ww, zr_wa, zr_wl, zr_ai, zr_aw, zr_aa, zr_al, zr_li, zr_lw, zr_la, zr_ll, zw_ii, zw_ww, zw_aa, zw_ll, reduceIte, Nat.reduceEqDiff, if_true, if_false]) | with_reducible refine zb_o1 ?_ | with_reducible refine zb_o2 ?_ | with_reducible refine zb_o3 ?_ | with_reducible refine zb_o4 ?_ | with_reducible refine zb_tr ?_ | exact trivial | with_reducible refine zb_T ?_ | with_reducible refine zb_sp ?_ ?_)
      refine kC_at9 hWS hL6 k hk1 _ ?_ 8 (zpL pa) (by omega) (Nat.le_refl _) (by omega)
      try simp (disch := first | assumption | omega) only [zl32, zl64, i32_add, i32_sub, i32_mul, i32_neg, i64_add, i64_sub, i64_mul, i64_neg, cv_gi, cv_gw, cv_ga, cv_gl, cv_pi, cv_pw, cv_pa, cv_pl, zf_S, zf_i, zf_l, mz1, mz2, mz3, mz4, kn_haI, kn_haJ, kn_haQ, kn_gaI, kn_gaJ, kn_gaQ, kn_hoA, kn_hlen, kn_hfI, kn_hfJ, kn_hfR, kn_hfN, kn_hoI, kn_hoJ, kn_hoR, kn_hoN, kn_hoC, kn_hoP, kn_paI, kn_paJ, kn_paQ, kn_hpF, kuI_ha, kuI_ga, kuI_pa, kuI_hA, kuI_ln, kuB_ha, kuB_ga, kuB_pa, kuB_hA, kuB_ln, kuJ_ha, kuJ_ga, kuJ_pa, kuJ_hA, kuJ_ln, kuQ_ha, kuQ_ga, kuQ_pa, kuQ_hA, kuQ_ln, kuO_fI, kuO_fJ, kuO_fR, kuO_fN, kuO_oI, kuO_oJ, kuO_oR, kuO_oN, kuO_oC, kuO_oP, kuO_pF, kvI_s, kvJ_s, kvR_s, kvN_s, kvN_0, kvN_v, kpI_s, kpJ_s, kpR_s, kpN_s, kpN_0, kpN_v, List.getElem?_cons_zero, List.getElem?_cons_succ, List.set_cons_zero, List.set_cons_succ, List.length_cons, List.length_nil, forall_eq, exists_eq_left', Option.some.injEq, true_and, and_true, reduceIte, Nat.reduceEqDiff, Nat.reduceAdd, Nat.reduceLT, hup_hup, hup_at, eq_self, if_true, if_false, implies_true, true_implies, false_implies, not_true_eq_false, not_false_eq_true, or_true, true_or, i32_10, i32_01, kI_new, kB_new, kJ_new, kI_new2, kB_new2, kJ_new2, kQ_new, kO_new, zkd, zijd, zip1, zip, zim1, i32_natN, ziL, zi_0, zi_1, kO_fI oK1', kO_fJ oK1', kO_fR oK1', kO_fN oK1', kO_oI oK1', kO_oJ oK1', kO_oR oK1', kO_oN oK1', kO_oC oK1', kO_oP oK1', kO_pF oK1', kO_fI o01, kO_fJ o01, kO_fR o01, kO_fN o01, kO_oI o01, kO_oJ o01, kO_oR o01, kO_oN o01, kO_oC o01, kO_oP o01, kO_pF o01]
      refine ⟨1, 9, by omega, by omega, ?_⟩
      refine kC_product o01 jg jK'.1 hM hM2 rf (hv.2.2.2.2.2 k hk1 (by omega)) 1 9 (by omega) (by omega) _ (fun r hr => ?_)
      refine ih (i + 1) (zpm M f (zpK pa k)) _ r _ _ (by omega) (zpm_red (by omega)) (hF.trans' (kF.new hr)) ?_ (hup_at _ _ _) (by omega) (by omega) (fun S2 g2 hF2 hg2 jg2 => ?_)
      · rcases hz : S r with _ | y
        · rfl
        · rw [hF r y hz (fun h => h)] at hr
          cases hr
      · have := hrec S2 g2 hF2 hg2 jg2
        rw [show kc + 1 + n = kc + (n + 1) from by omega, show nc + 9 + 9 * n = nc + 9 * (n + 1) from by omega]
        exact this
  have L48 : ∀ (n k : Nat), 1 ≤ k → k + n = zpL pa → ∀ (S1 : hH) (g kc nc : Nat), kF kN S S1 → S g = none → S1 g = some (kJ 9 (zls M p pa sm (k - 1))) → kc + 3 * n ≤ mc → nc + 27 * n ≤ ms → wX6_asNumbers_l48 mc ms Q T (w (zpL pa)) mo (n + 1) kc nc S1 g (i32 k) := by
    intro n
    induction n with
    | zero =>
      intro k hk1 hk S1 g kc nc hF hg jg hb1 hb2
      have hWS := hW.G (hF.G (m := m) (fun q h => h.elim))
      obtain ⟨rootL', mfL', nuL', kaL', woL', ptL', slL', fiL', ixL', oL', _, _⟩ := hWS.1 (zpL pa) hv.1 (Nat.le_refl _)
      have oL1' := oL'.1
      rw [wX6_asNumbers_l48]
      try simp (disch := first | assumption | omega) only [zl32, zl64, i32_add, i32_sub, i32_mul, i32_neg, i64_add, i64_sub, i64_mul, i64_neg, cv_gi, cv_gw, cv_ga, cv_gl, cv_pi, cv_pw, cv_pa, cv_pl, zf_S, zf_i, zf_l, mz1, mz2, mz3, mz4, kn_haI, kn_haJ, kn_haQ, kn_gaI, kn_gaJ, kn_gaQ, kn_hoA, kn_hlen, kn_hfI, kn_hfJ, kn_hfR, kn_hfN, kn_hoI, kn_hoJ, kn_hoR, kn_hoN, kn_hoC, kn_hoP, kn_paI, kn_paJ, kn_paQ, kn_hpF, kuI_ha, kuI_ga, kuI_pa, kuI_hA, kuI_ln, kuB_ha, kuB_ga, kuB_pa, kuB_hA, kuB_ln, kuJ_ha, kuJ_ga, kuJ_pa, kuJ_hA, kuJ_ln, kuQ_ha, kuQ_ga, kuQ_pa, kuQ_hA, kuQ_ln, kuO_fI, kuO_fJ, kuO_fR, kuO_fN, kuO_oI, kuO_oJ, kuO_oR, kuO_oN, kuO_oC, kuO_oP, kuO_pF, kvI_s, kvJ_s, kvR_s, kvN_s, kvN_0, kvN_v, kpI_s, kpJ_s, kpR_s, kpN_s, kpN_0, kpN_v, List.getElem?_cons_zero, List.getElem?_cons_succ, List.set_cons_zero, List.set_cons_succ, List.length_cons, List.length_nil, forall_eq, exists_eq_left', Option.some.injEq, true_and, and_true, reduceIte, Nat.reduceEqDiff, Nat.reduceAdd, Nat.reduceLT, hup_hup, hup_at, eq_self, if_true, if_false, implies_true, true_implies, false_implies, not_true_eq_false, not_false_eq_true, or_true, true_or, i32_10, i32_01, kI_new, kB_new, kJ_new, kI_new2, kB_new2, kJ_new2, kQ_new, kO_new, zkd, zijd, zip1, zip, zim1, i32_natN, ziL, zi_0, zi_1, kO_fI oL1', kO_fJ oL1', kO_fR oL1', kO_fN oL1', kO_oI oL1', kO_oJ oL1', kO_oR oL1', kO_oN oL1', kO_oC oL1', kO_oP oL1', kO_pF oL1']
      repeat' (first | (exfalso; omega) | (with_reducible refine zb_in ?_ ?_ ?_ ?_; omega; omega; omega) | (with_reducible refine zb_le ?_ ?_ ?_ ?_ (fun _ => ?_) (fun _ => ?_); omega; omega; omega; omega) | (with_reducible refine zb_lt ?_ ?_ ?_ ?_ (fun _ => ?_) (fun _ => ?_); omega; omega; omega; omega) | (with_reducible refine zb_eq ?_ ?_ ?_ ?_ (fun _ => ?_) (fun _ => ?_); omega; omega; omega; omega) | (with_reducible refine zb_leL ?_ ?_ ?_ ?_ (fun _ => ?_) (fun _ => ?_); omega; omega; omega; omega) | (with_reducible refine zb_ltL ?_ ?_ ?_ ?_ (fun _ => ?_) (fun _ => ?_); omega; omega; omega; omega) | (with_reducible refine zb_eqL ?_ ?_ ?_ ?_ (fun _ => ?_) (fun _ => ?_); omega; omega; omega; omega) | (with_reducible refine zb_nz ?_ ?_ ?_ ?_; omega; omega; omega) | (with_reducible refine zb_nzL ?_ ?_ ?_ ?_; omega; omega; omega) | with_reducible refine zb_ite ?_ | with_reducible refine zb_iteL ?_ | ((with_reducible intro y hy); subst hy; try simp only [zl32, zl64, i32_add, i32_sub, i32_mul, i32_neg, i64_add, i64_sub, i64_mul, i64_neg, cv_gi, cv_gw, cv_ga, cv_gl, cv_pi, cv_pw, cv_pa, cv_pl, zf_S, zf_i, zf_l, mz1, mz2, mz3, mz4, zr_ii, zr_iw, zr_ia, zr_il, zr_wi, zr_ww, zr_wa, zr_wl, zr_ai, zr_aw, zr_aa, zr_al, zr_li, zr_lw, zr_la, zr_ll, zw_ii, zw_ww, zw_aa, zw_ll, reduceIte, Nat.reduceEqDiff, if_true, if_false]) | with_reducible refine zb_o1 ?_ | with_reducible refine zb_o2 ?_ | with_reducible refine zb_o3 ?_ | with_reducible refine zb_o4 ?_ | with_reducible refine zb_tr ?_ | exact trivial | with_reducible refine zb_T ?_ | with_reducible refine zb_sp ?_ ?_)
      refine q S1 g hg hF ?_
      rw [show zpL pa - 1 = k - 1 from by omega]
      exact jg
    | succ n ih =>
      intro k hk1 hk S1 g kc nc hF hg jg hb1 hb2
      have hWS := hW.G (hF.G (m := m) (fun q h => h.elim))
      obtain ⟨rootL', mfL', nuL', kaL', woL', ptL', slL', fiL', ixL', oL', _, _⟩ := hWS.1 (zpL pa) hv.1 (Nat.le_refl _)
      have oL1' := oL'.1
      have hs := hsm k hk1
      rw [wX6_asNumbers_l48]
      try simp (disch := first | assumption | omega) only [zl32, zl64, i32_add, i32_sub, i32_mul, i32_neg, i64_add, i64_sub, i64_mul, i64_neg, cv_gi, cv_gw, cv_ga, cv_gl, cv_pi, cv_pw, cv_pa, cv_pl, zf_S, zf_i, zf_l, mz1, mz2, mz3, mz4, kn_haI, kn_haJ, kn_haQ, kn_gaI, kn_gaJ, kn_gaQ, kn_hoA, kn_hlen, kn_hfI, kn_hfJ, kn_hfR, kn_hfN, kn_hoI, kn_hoJ, kn_hoR, kn_hoN, kn_hoC, kn_hoP, kn_paI, kn_paJ, kn_paQ, kn_hpF, kuI_ha, kuI_ga, kuI_pa, kuI_hA, kuI_ln, kuB_ha, kuB_ga, kuB_pa, kuB_hA, kuB_ln, kuJ_ha, kuJ_ga, kuJ_pa, kuJ_hA, kuJ_ln, kuQ_ha, kuQ_ga, kuQ_pa, kuQ_hA, kuQ_ln, kuO_fI, kuO_fJ, kuO_fR, kuO_fN, kuO_oI, kuO_oJ, kuO_oR, kuO_oN, kuO_oC, kuO_oP, kuO_pF, kvI_s, kvJ_s, kvR_s, kvN_s, kvN_0, kvN_v, kpI_s, kpJ_s, kpR_s, kpN_s, kpN_0, kpN_v, List.getElem?_cons_zero, List.getElem?_cons_succ, List.set_cons_zero, List.set_cons_succ, List.length_cons, List.length_nil, forall_eq, exists_eq_left', Option.some.injEq, true_and, and_true, reduceIte, Nat.reduceEqDiff, Nat.reduceAdd, Nat.reduceLT, hup_hup, hup_at, eq_self, if_true, if_false, implies_true, true_implies, false_implies, not_true_eq_false, not_false_eq_true, or_true, true_or, i32_10, i32_01, kI_new, kB_new, kJ_new, kI_new2, kB_new2, kJ_new2, kQ_new, kO_new, zkd, zijd, zip1, zip, zim1, i32_natN, ziL, zi_0, zi_1, kO_fI oL1', kO_fJ oL1', kO_fR oL1', kO_fN oL1', kO_oI oL1', kO_oJ oL1', kO_oR oL1', kO_oN oL1', kO_oC oL1', kO_oP oL1', kO_pF oL1']
      repeat' (first | (exfalso; omega) | (with_reducible refine zb_in ?_ ?_ ?_ ?_; omega; omega; omega) | (with_reducible refine zb_le ?_ ?_ ?_ ?_ (fun _ => ?_) (fun _ => ?_); omega; omega; omega; omega) | (with_reducible refine zb_lt ?_ ?_ ?_ ?_ (fun _ => ?_) (fun _ => ?_); omega; omega; omega; omega) | (with_reducible refine zb_eq ?_ ?_ ?_ ?_ (fun _ => ?_) (fun _ => ?_); omega; omega; omega; omega) | (with_reducible refine zb_leL ?_ ?_ ?_ ?_ (fun _ => ?_) (fun _ => ?_); omega; omega; omega; omega) | (with_reducible refine zb_ltL ?_ ?_ ?_ ?_ (fun _ => ?_) (fun _ => ?_); omega; omega; omega; omega) | (with_reducible refine zb_eqL ?_ ?_ ?_ ?_ (fun _ => ?_) (fun _ => ?_); omega; omega; omega; omega) | (with_reducible refine zb_nz ?_ ?_ ?_ ?_; omega; omega; omega) | (with_reducible refine zb_nzL ?_ ?_ ?_ ?_; omega; omega; omega) | with_reducible refine zb_ite ?_ | with_reducible refine zb_iteL ?_ | ((with_reducible intro y hy); subst hy; try simp only [zl32, zl64, i32_add, i32_sub, i32_mul, i32_neg, i64_add, i64_sub, i64_mul, i64_neg, cv_gi, cv_gw, cv_ga, cv_gl, cv_pi, cv_pw, cv_pa, cv_pl, zf_S, zf_i, zf_l, mz1, mz2, mz3, mz4, zr_ii, zr_iw, zr_ia, zr_il, zr_wi, zr_ww, zr_wa, zr_wl, zr_ai, zr_aw, zr_aa, zr_al, zr_li, zr_lw, zr_la, zr_ll, zw_ii, zw_ww, zw_aa, zw_ll, reduceIte, Nat.reduceEqDiff, if_true, if_false]) | with_reducible refine zb_o1 ?_ | with_reducible refine zb_o2 ?_ | with_reducible refine zb_o3 ?_ | with_reducible refine zb_o4 ?_ | with_reducible refine zb_tr ?_ | exact trivial | with_reducible refine zb_T ?_ | with_reducible refine zb_sp ?_ ?_)
      refine ⟨(sm k).toNat + 1, ?_⟩
      refine L60 k hk1 (by omega) (fun zk zn z z3 z4 => wX6_asNumbers_l48 mc ms Q T (w (zpL pa)) mo (n + 1) zk zn z z3 z4) (sm k).toNat 0 _ S1 g kc nc (by omega) (zls_red (by omega) pa sm (k - 1)) hF hg jg (by omega) (by omega) (fun S2 g2 hF2 hg2 jg2 => ?_)
      refine ih (k + 1) (by omega) (by omega) S2 g2 _ _ hF2 hg2 ?_ (by omega) (by omega)
      rw [jg2, show k + 1 - 1 = (k - 1) + 1 from by omega]
      conv => rhs; unfold zls
      rw [show k - 1 + 1 = k from by omega]
  unfold wX6_asNumbers
  refine ⟨by omega, by omega, ?_⟩
  intro g hg
  have nm : mo ≠ g := kne om hg
  have nt : tm ≠ g := kne im hg
  have nT : T ≠ g := kne oT hg
  have n0 : A 0 ≠ g := kne o0 hg
  try simp (disch := first | assumption | omega) only [zl32, zl64, i32_add, i32_sub, i32_mul, i32_neg, i64_add, i64_sub, i64_mul, i64_neg, cv_gi, cv_gw, cv_ga, cv_gl, cv_pi, cv_pw, cv_pa, cv_pl, zf_S, zf_i, zf_l, mz1, mz2, mz3, mz4, kn_haI, kn_haJ, kn_haQ, kn_gaI, kn_gaJ, kn_gaQ, kn_hoA, kn_hlen, kn_hfI, kn_hfJ, kn_hfR, kn_hfN, kn_hoI, kn_hoJ, kn_hoR, kn_hoN, kn_hoC, kn_hoP, kn_paI, kn_paJ, kn_paQ, kn_hpF, kuI_ha, kuI_ga, kuI_pa, kuI_hA, kuI_ln, kuB_ha, kuB_ga, kuB_pa, kuB_hA, kuB_ln, kuJ_ha, kuJ_ga, kuJ_pa, kuJ_hA, kuJ_ln, kuQ_ha, kuQ_ga, kuQ_pa, kuQ_hA, kuQ_ln, kuO_fI, kuO_fJ, kuO_fR, kuO_fN, kuO_oI, kuO_oJ, kuO_oR, kuO_oN, kuO_oC, kuO_oP, kuO_pF, kvI_s, kvJ_s, kvR_s, kvN_s, kvN_0, kvN_v, kpI_s, kpJ_s, kpR_s, kpN_s, kpN_0, kpN_v, List.getElem?_cons_zero, List.getElem?_cons_succ, List.set_cons_zero, List.set_cons_succ, List.length_cons, List.length_nil, forall_eq, exists_eq_left', Option.some.injEq, true_and, and_true, reduceIte, Nat.reduceEqDiff, Nat.reduceAdd, Nat.reduceLT, hup_hup, hup_at, eq_self, if_true, if_false, implies_true, true_implies, false_implies, not_true_eq_false, not_false_eq_true, or_true, true_or, i32_10, i32_01, kI_new, kB_new, kJ_new, kI_new2, kB_new2, kJ_new2, kQ_new, kO_new, zkd, zijd, zip1, zip, zim1, i32_natN, ziL, zi_0, zi_1, kO_fI om, kO_fJ om, kO_fR om, kO_fN om, kO_oI om, kO_oJ om, kO_oR om, kO_oN om, kO_oC om, kO_oP om, kO_pF om, kI_ha im, kI_ga im, kI_pa im, kI_hA im, kI_ln im, kO_fI oT, kO_fJ oT, kO_fR oT, kO_fN oT, kO_oI oT, kO_oJ oT, kO_oR oT, kO_oN oT, kO_oC oT, kO_oP oT, kO_pF oT, kO_fI o0, kO_fJ o0, kO_fR o0, kO_fN o0, kO_oI o0, kO_oJ o0, kO_oR o0, kO_oN o0, kO_oC o0, kO_oP o0, kO_pF o0]
  repeat' (first | (exfalso; omega) | (with_reducible refine zb_in ?_ ?_ ?_ ?_; omega; omega; omega) | (with_reducible refine zb_le ?_ ?_ ?_ ?_ (fun _ => ?_) (fun _ => ?_); omega; omega; omega; omega) | (with_reducible refine zb_lt ?_ ?_ ?_ ?_ (fun _ => ?_) (fun _ => ?_); omega; omega; omega; omega) | (with_reducible refine zb_eq ?_ ?_ ?_ ?_ (fun _ => ?_) (fun _ => ?_); omega; omega; omega; omega) | (with_reducible refine zb_leL ?_ ?_ ?_ ?_ (fun _ => ?_) (fun _ => ?_); omega; omega; omega; omega) | (with_reducible refine zb_ltL ?_ ?_ ?_ ?_ (fun _ => ?_) (fun _ => ?_); omega; omega; omega; omega) | (with_reducible refine zb_eqL ?_ ?_ ?_ ?_ (fun _ => ?_) (fun _ => ?_); omega; omega; omega; omega) | (with_reducible refine zb_nz ?_ ?_ ?_ ?_; omega; omega; omega) | (with_reducible refine zb_nzL ?_ ?_ ?_ ?_; omega; omega; omega) | with_reducible refine zb_ite ?_ | with_reducible refine zb_iteL ?_ | ((with_reducible intro y hy); subst hy; try simp only [zl32, zl64, i32_add, i32_sub, i32_mul, i32_neg, i64_add, i64_sub, i64_mul, i64_neg, cv_gi, cv_gw, cv_ga, cv_gl, cv_pi, cv_pw, cv_pa, cv_pl, zf_S, zf_i, zf_l, mz1, mz2, mz3, mz4, zr_ii, zr_iw, zr_ia, zr_il, zr_wi, zr_ww, zr_wa, zr_wl, zr_ai, zr_aw, zr_aa, zr_al, zr_li, zr_lw, zr_la, zr_ll, zw_ii, zw_ww, zw_aa, zw_ll, reduceIte, Nat.reduceEqDiff, if_true, if_false]) | with_reducible refine zb_o1 ?_ | with_reducible refine zb_o2 ?_ | with_reducible refine zb_o3 ?_ | with_reducible refine zb_o4 ?_ | with_reducible refine zb_tr ?_ | exact trivial | with_reducible refine zb_T ?_ | with_reducible refine zb_sp ?_ ?_)
  refine kC_limit (A := A) (p := p) (M := M) (tr := tr) (by rw [hup_ne n0]; exact o0) (by omega) _ ?_
  have J : ∀ v : Int, 0 ≤ v → v = p ^ (sm 0).toNat % M → wX6_asNumbers_j44 mc ms Q 1 9 (hup S g (kJ 9 (fun _ => 0))) T (w (zpL pa)) mo g (i64 v) (i32 0) g := by
    intro v hv0 hv1
    unfold wX6_asNumbers_j44
    try simp (disch := first | assumption | omega) only [zl32, zl64, i32_add, i32_sub, i32_mul, i32_neg, i64_add, i64_sub, i64_mul, i64_neg, cv_gi, cv_gw, cv_ga, cv_gl, cv_pi, cv_pw, cv_pa, cv_pl, zf_S, zf_i, zf_l, mz1, mz2, mz3, mz4, kn_haI, kn_haJ, kn_haQ, kn_gaI, kn_gaJ, kn_gaQ, kn_hoA, kn_hlen, kn_hfI, kn_hfJ, kn_hfR, kn_hfN, kn_hoI, kn_hoJ, kn_hoR, kn_hoN, kn_hoC, kn_hoP, kn_paI, kn_paJ, kn_paQ, kn_hpF, kuI_ha, kuI_ga, kuI_pa, kuI_hA, kuI_ln, kuB_ha, kuB_ga, kuB_pa, kuB_hA, kuB_ln, kuJ_ha, kuJ_ga, kuJ_pa, kuJ_hA, kuJ_ln, kuQ_ha, kuQ_ga, kuQ_pa, kuQ_hA, kuQ_ln, kuO_fI, kuO_fJ, kuO_fR, kuO_fN, kuO_oI, kuO_oJ, kuO_oR, kuO_oN, kuO_oC, kuO_oP, kuO_pF, kvI_s, kvJ_s, kvR_s, kvN_s, kvN_0, kvN_v, kpI_s, kpJ_s, kpR_s, kpN_s, kpN_0, kpN_v, List.getElem?_cons_zero, List.getElem?_cons_succ, List.set_cons_zero, List.set_cons_succ, List.length_cons, List.length_nil, forall_eq, exists_eq_left', Option.some.injEq, true_and, and_true, reduceIte, Nat.reduceEqDiff, Nat.reduceAdd, Nat.reduceLT, hup_hup, hup_at, eq_self, if_true, if_false, implies_true, true_implies, false_implies, not_true_eq_false, not_false_eq_true, or_true, true_or, i32_10, i32_01, kI_new, kB_new, kJ_new, kI_new2, kB_new2, kJ_new2, kQ_new, kO_new, zkd, zijd, zip1, zip, zim1, i32_natN, ziL, zi_0, zi_1]
    repeat' (first | (exfalso; omega) | (with_reducible refine zb_in ?_ ?_ ?_ ?_; omega; omega; omega) | (with_reducible refine zb_le ?_ ?_ ?_ ?_ (fun _ => ?_) (fun _ => ?_); omega; omega; omega; omega) | (with_reducible refine zb_lt ?_ ?_ ?_ ?_ (fun _ => ?_) (fun _ => ?_); omega; omega; omega; omega) | (with_reducible refine zb_eq ?_ ?_ ?_ ?_ (fun _ => ?_) (fun _ => ?_); omega; omega; omega; omega) | (with_reducible refine zb_leL ?_ ?_ ?_ ?_ (fun _ => ?_) (fun _ => ?_); omega; omega; omega; omega) | (with_reducible refine zb_ltL ?_ ?_ ?_ ?_ (fun _ => ?_) (fun _ => ?_); omega; omega; omega; omega) | (with_reducible refine zb_eqL ?_ ?_ ?_ ?_ (fun _ => ?_) (fun _ => ?_); omega; omega; omega; omega) | (with_reducible refine zb_nz ?_ ?_ ?_ ?_; omega; omega; omega) | (with_reducible refine zb_nzL ?_ ?_ ?_ ?_; omega; omega; omega) | with_reducible refine zb_ite ?_ | with_reducible refine zb_iteL ?_ | ((with_reducible intro y hy); subst hy; try simp only [zl32, zl64, i32_add, i32_sub, i32_mul, i32_neg, i64_add, i64_sub, i64_mul, i64_neg, cv_gi, cv_gw, cv_ga, cv_gl, cv_pi, cv_pw, cv_pa, cv_pl, zf_S, zf_i, zf_l, mz1, mz2, mz3, mz4, zr_ii, zr_iw, zr_ia, zr_il, zr_wi, zr_ww, zr_wa, zr_wl, zr_ai, zr_aw, zr_aa, zr_al, zr_li, zr_lw, zr_la, zr_ll, zw_ii, zw_ww, zw_aa, zw_ll, reduceIte, Nat.reduceEqDiff, if_true, if_false]) | with_reducible refine zb_o1 ?_ | with_reducible refine zb_o2 ?_ | with_reducible refine zb_o3 ?_ | with_reducible refine zb_o4 ?_ | with_reducible refine zb_tr ?_ | exact trivial | with_reducible refine zb_T ?_ | with_reducible refine zb_sp ?_ ?_)
    refine ⟨zpL pa - 1 + 1, ?_⟩
    have := L48 (zpL pa - 1) 1 (by omega) (by omega) (hup S g (kJ 9 (zup (fun _ => 0) 0 v))) g 1 9 (kF.new hg) hg ?_ (by omega) (by omega)
    · exact this
    · rw [hup_at]
      congr 1
      refine kJ_ext (fun k hk => ?_)
      show (if k = 0 then v else 0) = (if k = 0 then p ^ (sm 0).toNat % M else 0)
      rw [hv1]
  try simp (disch := first | assumption | omega) only [zl32, zl64, i32_add, i32_sub, i32_mul, i32_neg, i64_add, i64_sub, i64_mul, i64_neg, cv_gi, cv_gw, cv_ga, cv_gl, cv_pi, cv_pw, cv_pa, cv_pl, zf_S, zf_i, zf_l, mz1, mz2, mz3, mz4, kn_haI, kn_haJ, kn_haQ, kn_gaI, kn_gaJ, kn_gaQ, kn_hoA, kn_hlen, kn_hfI, kn_hfJ, kn_hfR, kn_hfN, kn_hoI, kn_hoJ, kn_hoR, kn_hoN, kn_hoC, kn_hoP, kn_paI, kn_paJ, kn_paQ, kn_hpF, kuI_ha, kuI_ga, kuI_pa, kuI_hA, kuI_ln, kuB_ha, kuB_ga, kuB_pa, kuB_hA, kuB_ln, kuJ_ha, kuJ_ga, kuJ_pa, kuJ_hA, kuJ_ln, kuQ_ha, kuQ_ga, kuQ_pa, kuQ_hA, kuQ_ln, kuO_fI, kuO_fJ, kuO_fR, kuO_fN, kuO_oI, kuO_oJ, kuO_oR, kuO_oN, kuO_oC, kuO_oP, kuO_pF, kvI_s, kvJ_s, kvR_s, kvN_s, kvN_0, kvN_v, kpI_s, kpJ_s, kpR_s, kpN_s, kpN_0, kpN_v, List.getElem?_cons_zero, List.getElem?_cons_succ, List.set_cons_zero, List.set_cons_succ, List.length_cons, List.length_nil, forall_eq, exists_eq_left', Option.some.injEq, true_and, and_true, reduceIte, Nat.reduceEqDiff, Nat.reduceAdd, Nat.reduceLT, hup_hup, hup_at, eq_self, if_true, if_false, implies_true, true_implies, false_implies, not_true_eq_false, not_false_eq_true, or_true, true_or, i32_10, i32_01, kI_new, kB_new, kJ_new, kI_new2, kB_new2, kJ_new2, kQ_new, kO_new, zkd, zijd, zip1, zip, zim1, i32_natN, ziL, zi_0, zi_1, kO_fI om, kO_fJ om, kO_fR om, kO_fN om, kO_oI om, kO_oJ om, kO_oR om, kO_oN om, kO_oC om, kO_oP om, kO_pF om, kI_ha im, kI_ga im, kI_pa im, kI_hA im, kI_ln im, kO_fI oT, kO_fJ oT, kO_fR oT, kO_fN oT, kO_oI oT, kO_oJ oT, kO_oR oT, kO_oN oT, kO_oC oT, kO_oP oT, kO_pF oT, kO_fI o0, kO_fJ o0, kO_fR o0, kO_fN o0, kO_oI o0, kO_oJ o0, kO_oR o0, kO_oN o0, kO_oC o0, kO_oP o0, kO_pF o0]
  rw [zpw_lim hp hMp] at J
  repeat' (first | (exfalso; omega) | (with_reducible refine zb_in ?_ ?_ ?_ ?_; omega; omega; omega) | (with_reducible refine zb_le ?_ ?_ ?_ ?_ (fun _ => ?_) (fun _ => ?_); omega; omega; omega; omega) | (with_reducible refine zb_lt ?_ ?_ ?_ ?_ (fun _ => ?_) (fun _ => ?_); omega; omega; omega; omega) | (with_reducible refine zb_eq ?_ ?_ ?_ ?_ (fun _ => ?_) (fun _ => ?_); omega; omega; omega; omega) | (with_reducible refine zb_leL ?_ ?_ ?_ ?_ (fun _ => ?_) (fun _ => ?_); omega; omega; omega; omega) | (with_reducible refine zb_ltL ?_ ?_ ?_ ?_ (fun _ => ?_) (fun _ => ?_); omega; omega; omega; omega) | (with_reducible refine zb_eqL ?_ ?_ ?_ ?_ (fun _ => ?_) (fun _ => ?_); omega; omega; omega; omega) | (with_reducible refine zb_nz ?_ ?_ ?_ ?_; omega; omega; omega) | (with_reducible refine zb_nzL ?_ ?_ ?_ ?_; omega; omega; omega) | with_reducible refine zb_ite ?_ | with_reducible refine zb_iteL ?_ | ((with_reducible intro y hy); subst hy; try simp only [zl32, zl64, i32_add, i32_sub, i32_mul, i32_neg, i64_add, i64_sub, i64_mul, i64_neg, cv_gi, cv_gw, cv_ga, cv_gl, cv_pi, cv_pw, cv_pa, cv_pl, zf_S, zf_i, zf_l, mz1, mz2, mz3, mz4, zr_ii, zr_iw, zr_ia, zr_il, zr_wi, zr_ww, zr_wa, zr_wl, zr_ai, zr_aw, zr_aa, zr_al, zr_li, zr_lw, zr_la, zr_ll, zw_ii, zw_ww, zw_aa, zw_ll, reduceIte, Nat.reduceEqDiff, if_true, if_false]) | with_reducible refine zb_o1 ?_ | with_reducible refine zb_o2 ?_ | with_reducible refine zb_o3 ?_ | with_reducible refine zb_o4 ?_ | with_reducible refine zb_tr ?_ | exact trivial | with_reducible refine zb_T ?_ | with_reducible refine zb_sp ?_ ?_)
  · try simp (disch := first | assumption | omega) only [zl32, zl64, i32_add, i32_sub, i32_mul, i32_neg, i64_add, i64_sub, i64_mul, i64_neg, cv_gi, cv_gw, cv_ga, cv_gl, cv_pi, cv_pw, cv_pa, cv_pl, zf_S, zf_i, zf_l, mz1, mz2, mz3, mz4, kn_haI, kn_haJ, kn_haQ, kn_gaI, kn_gaJ, kn_gaQ, kn_hoA, kn_hlen, kn_hfI, kn_hfJ, kn_hfR, kn_hfN, kn_hoI, kn_hoJ, kn_hoR, kn_hoN, kn_hoC, kn_hoP, kn_paI, kn_paJ, kn_paQ, kn_hpF, kuI_ha, kuI_ga, kuI_pa, kuI_hA, kuI_ln, kuB_ha, kuB_ga, kuB_pa, kuB_hA, kuB_ln, kuJ_ha, kuJ_ga, kuJ_pa, kuJ_hA, kuJ_ln, kuQ_ha, kuQ_ga, kuQ_pa, kuQ_hA, kuQ_ln, kuO_fI, kuO_fJ, kuO_fR, kuO_fN, kuO_oI, kuO_oJ, kuO_oR, kuO_oN, kuO_oC, kuO_oP, kuO_pF, kvI_s, kvJ_s, kvR_s, kvN_s, kvN_0, kvN_v, kpI_s, kpJ_s, kpR_s, kpN_s, kpN_0, kpN_v, List.getElem?_cons_zero, List.getElem?_cons_succ, List.set_cons_zero, List.set_cons_succ, List.length_cons, List.length_nil, forall_eq, exists_eq_left', Option.some.injEq, true_and, and_true, reduceIte, Nat.reduceEqDiff, Nat.reduceAdd, Nat.reduceLT, hup_hup, hup_at, eq_self, if_true, if_false, implies_true, true_implies, false_implies, not_true_eq_false, not_false_eq_true, or_true, true_or, i32_10, i32_01, kI_new, kB_new, kJ_new, kI_new2, kB_new2, kJ_new2, kQ_new, kO_new, zkd, zijd, zip1, zip, zim1, i32_natN, ziL, zi_0, zi_1, kO_fI om, kO_fJ om, kO_fR om, kO_fN om, kO_oI om, kO_oJ om, kO_oR om, kO_oN om, kO_oC om, kO_oP om, kO_pF om, kI_ha im, kI_ga im, kI_pa im, kI_hA im, kI_ln im, kO_fI oT, kO_fJ oT, kO_fR oT, kO_fN oT, kO_oI oT, kO_oJ oT, kO_oR oT, kO_oN oT, kO_oC oT, kO_oP oT, kO_pF oT, kO_fI o0, kO_fJ o0, kO_fR o0, kO_fN o0, kO_oI o0, kO_oJ o0, kO_oR o0, kO_oN o0, kO_oC o0, kO_oP o0, kO_pF o0]
    repeat' (first | (exfalso; omega) | (with_reducible refine zb_in ?_ ?_ ?_ ?_; omega; omega; omega) | (with_reducible refine zb_le ?_ ?_ ?_ ?_ (fun _ => ?_) (fun _ => ?_); omega; omega; omega; omega) | (with_reducible refine zb_lt ?_ ?_ ?_ ?_ (fun _ => ?_) (fun _ => ?_); omega; omega; omega; omega) | (with_reducible refine zb_eq ?_ ?_ ?_ ?_ (fun _ => ?_) (fun _ => ?_); omega; omega; omega; omega) | (with_reducible refine zb_leL ?_ ?_ ?_ ?_ (fun _ => ?_) (fun _ => ?_); omega; omega; omega; omega) | (with_reducible refine zb_ltL ?_ ?_ ?_ ?_ (fun _ => ?_) (fun _ => ?_); omega; omega; omega; omega) | (with_reducible refine zb_eqL ?_ ?_ ?_ ?_ (fun _ => ?_) (fun _ => ?_); omega; omega; omega; omega) | (with_reducible refine zb_nz ?_ ?_ ?_ ?_; omega; omega; omega) | (with_reducible refine zb_nzL ?_ ?_ ?_ ?_; omega; omega; omega) | with_reducible refine zb_ite ?_ | with_reducible refine zb_iteL ?_ | ((with_reducible intro y hy); subst hy; try simp only [zl32, zl64, i32_add, i32_sub, i32_mul, i32_neg, i64_add, i64_sub, i64_mul, i64_neg, cv_gi, cv_gw, cv_ga, cv_gl, cv_pi, cv_pw, cv_pa, cv_pl, zf_S, zf_i, zf_l, mz1, mz2, mz3, mz4, zr_ii, zr_iw, zr_ia, zr_il, zr_wi, zr_ww, zr_wa, zr_wl, zr_ai, zr_aw, zr_aa, zr_al, zr_li, zr_lw, zr_la, zr_ll, zw_ii, zw_ww, zw_aa, zw_ll, reduceIte, Nat.reduceEqDiff, if_true, if_false]) | with_reducible refine zb_o1 ?_ | with_reducible refine zb_o2 ?_ | with_reducible refine zb_o3 ?_ | with_reducible refine zb_o4 ?_ | with_reducible refine zb_tr ?_ | exact trivial | with_reducible refine zb_T ?_ | with_reducible refine zb_sp ?_ ?_)
    rw [i32_64 (by omega) (by omega)]
    refine kC_power2 p (sm 0) (by omega) (by omega) _ ?_
    refine J _ (Int.le_of_lt (Int.pow_pos (by omega))) ?_
    rw [if_neg (by omega)]
  · refine J 0 (by omega) ?_
    rw [if_pos (by omega)]
theorem kC_nextKey {S : hH} {A : Nat → Nat} {p M : Int} {tr : Option Nat} (o0 : S (A 0) = some (kOb A p M tr)) (hp : zpr p) (hMp : M = p ^ zlim p) (hM : 1 < M) (hM2 : M < 536870912) {T fa L1 L2 P : Nat} {dg hv0 : Int} {hd : Option Nat} (oT : S T = some (kTo fa dg L1 L2 P hd hv0 (A 0))) {m : Nat → Prop} {w sd : Nat → Nat} {pa : zP} (hW : kWy m S w sd pa) (hv : zPv M pa) {by_ mo tm : Nat} {b e f dg2 va rr : Int} {rs : Option Nat} {ram : Nat} {sm : Nat → Int} (ob : S by_ = some (kSo b e f ram dg2 va (some mo) rs)) (om : S mo = some (kMo tm rr)) (im : S tm = some (kI 7 sm)) (h0 : -1000000 ≤ sm 0 ∧ sm 0 ≤ 1000000) (hsm : ∀ q, 1 ≤ q → 0 ≤ sm q ∧ sm q ≤ 3) (hram : ram ≤ 8) (root : Int) (hr0 : 0 ≤ root) (hr1 : root < p) (mc ms : Nat) (hmc : 30 ≤ mc) (hms : 270 ≤ ms) (Q : Nat → hH → Prop)
    (q : ∀ S1 r, S r = none → kF kN S S1 → S1 r = some (kJ 9 (znk M p pa ram sm root)) → Q r S1) : wX6_nextKey mc ms S T (w (zpL pa)) by_ (i32 root) Q := by
  have hp7 : 2 ≤ p ∧ p ≤ 7 := by unfold zpr at hp; omega
  have hL1 := hv.1
  have L58 : ∀ (n k : Nat), k + n = 9 → ∀ (X Y g : Nat → Int) (S1 : hH) (gr lr : Nat), zred M 9 X → zred M 9 Y → gr ≠ lr → S1 T = some (kTo fa dg L1 L2 P hd hv0 (A 0)) → S1 (A 0) = some (kOb A p M tr) → T ≠ gr → A 0 ≠ gr → S1 lr = some (kJ 9 Y) → (∀ x, x < 9 → g x = if x < k then (X x - root * Y x) % M else X x) → ∀ kc nc, Q gr (hup S1 gr (kJ 9 (fun x => (X x - root * Y x) % M))) → wX6_nextKey_l58 mc ms Q kc nc T (i32 root) gr lr (n + 1) (hup S1 gr (kJ 9 g)) (i32 k) := by
    intro n
    induction n with
    | zero =>
      intro k hk X Y g S1 gr lr rX rY ngl oT1 o01 nTg n0g jl hg kc nc hQ
      have : k = 9 := by omega
      subst this
      rw [wX6_nextKey_l58]
      try simp only [zl32, zl64, i32_add, i32_sub, i32_mul, i32_neg, i64_add, i64_sub, i64_mul, i64_neg, cv_gi, cv_gw, cv_ga, cv_gl, cv_pi, cv_pw, cv_pa, cv_pl, zf_S, zf_i, zf_l, mz1, mz2, mz3, mz4]
      repeat' (first | (exfalso; omega) | (with_reducible refine zb_in ?_ ?_ ?_ ?_; omega; omega; omega) | (with_reducible refine zb_le ?_ ?_ ?_ ?_ (fun _ => ?_) (fun _ => ?_); omega; omega; omega; omega) | (with_reducible refine zb_lt ?_ ?_ ?_ ?_ (fun _ => ?_) (fun _ => ?_); omega; omega; omega; omega) | (with_reducible refine zb_eq ?_ ?_ ?_ ?_ (fun _ => ?_) (fun _ => ?_); omega; omega; omega; omega) | (with_reducible refine zb_leL ?_ ?_ ?_ ?_ (fun _ => ?_) (fun _ => ?_); omega; omega; omega; omega) | (with_reducible refine zb_ltL ?_ ?_ ?_ ?_ (fun _ => ?_) (fun _ => ?_); omega; omega; omega; omega) | (with_reducible refine zb_eqL ?_ ?_ ?_ ?_ (fun _ => ?_) (fun _ => ?_); omega; omega; omega; omega) | (with_reducible refine zb_nz ?_ ?_ ?_ ?_; omega; omega; omega) | (with_reducible refine zb_nzL ?_ ?_ ?_ ?_; omega; omega; omega) | with_reducible refine zb_ite ?_ | with_reducible refine zb_iteL ?_ | ((with_reducible intro y hy); subst hy; try simp only [zl32, zl64, i32_add, i32_sub, i32_mul, i32_neg, i64_add, i64_sub, i64_mul, i64_neg, cv_gi, cv_gw, cv_ga, cv_gl, cv_pi, cv_pw, cv_pa, cv_pl, zf_S, zf_i, zf_l, mz1, mz2, mz3, mz4, zr_ii, zr_iw, zr_ia, zr_il, zr_wi, zr_ww, zr_wa, zr_wl, zr_ai, zr_aw, zr_aa, zr_al, zr_li, zr_lw, zr_la, zr_ll, zw_ii, zw_ww, zw_aa, zw_ll, reduceIte, Nat.reduceEqDiff, if_true, if_false]) | with_reducible refine zb_o1 ?_ | with_reducible refine zb_o2 ?_ | with_reducible refine zb_o3 ?_ | with_reducible refine zb_o4 ?_ | with_reducible refine zb_tr ?_ | exact trivial | with_reducible refine zb_T ?_ | with_reducible refine zb_sp ?_ ?_)
      rw [kJ_ext (f := g) (g := fun x => (X x - root * Y x) % M) (fun x hx => by rw [hg x hx, if_pos hx])]
      exact hQ
    | succ n ih =>
      intro k hk X Y g S1 gr lr rX rY ngl oT1 o01 nTg n0g jl hg kc nc hQ
      have nlg : lr ≠ gr := fun e => ngl e.symm
      have eg : g k = X k := by rw [hg k (by omega), if_neg (by omega)]
      have r1 := rX k (by omega)
      have r2 := rY k (by omega)
      have hb : 0 ≤ root * Y k ∧ root * Y k ≤ 3758096384 := by
        refine ⟨Int.mul_nonneg hr0 r2.1, ?_⟩
        have := Int.mul_le_mul (a := root) (b := Y k) (c := 7) (d := 536870912) (by omega) (by omega) r2.1 (by omega)
        omega
      rw [wX6_nextKey_l58]
      try simp (disch := first | assumption | omega) only [zl32, zl64, i32_add, i32_sub, i32_mul, i32_neg, i64_add, i64_sub, i64_mul, i64_neg, cv_gi, cv_gw, cv_ga, cv_gl, cv_pi, cv_pw, cv_pa, cv_pl, zf_S, zf_i, zf_l, mz1, mz2, mz3, mz4, kn_haI, kn_haJ, kn_haQ, kn_gaI, kn_gaJ, kn_gaQ, kn_hoA, kn_hlen, kn_hfI, kn_hfJ, kn_hfR, kn_hfN, kn_hoI, kn_hoJ, kn_hoR, kn_hoN, kn_hoC, kn_hoP, kn_paI, kn_paJ, kn_paQ, kn_hpF, kuI_ha, kuI_ga, kuI_pa, kuI_hA, kuI_ln, kuB_ha, kuB_ga, kuB_pa, kuB_hA, kuB_ln, kuJ_ha, kuJ_ga, kuJ_pa, kuJ_hA, kuJ_ln, kuQ_ha, kuQ_ga, kuQ_pa, kuQ_hA, kuQ_ln, kuO_fI, kuO_fJ, kuO_fR, kuO_fN, kuO_oI, kuO_oJ, kuO_oR, kuO_oN, kuO_oC, kuO_oP, kuO_pF, kvI_s, kvJ_s, kvR_s, kvN_s, kvN_0, kvN_v, kpI_s, kpJ_s, kpR_s, kpN_s, kpN_0, kpN_v, List.getElem?_cons_zero, List.getElem?_cons_succ, List.set_cons_zero, List.set_cons_succ, List.length_cons, List.length_nil, forall_eq, exists_eq_left', Option.some.injEq, true_and, and_true, reduceIte, Nat.reduceEqDiff, Nat.reduceAdd, Nat.reduceLT, hup_hup, hup_at, eq_self, if_true, if_false, implies_true, true_implies, false_implies, not_true_eq_false, not_false_eq_true, or_true, true_or, i32_10, i32_01, kI_new, kB_new, kJ_new, kI_new2, kB_new2, kJ_new2, kQ_new, kO_new, zkd, zijd, zip1, zip, zim1, i32_natN, ziL, zi_0, zi_1, kO_fI oT1, kO_fJ oT1, kO_fR oT1, kO_fN oT1, kO_oI oT1, kO_oJ oT1, kO_oR oT1, kO_oN oT1, kO_oC oT1, kO_oP oT1, kO_pF oT1, kO_fI o01, kO_fJ o01, kO_fR o01, kO_fN o01, kO_oI o01, kO_oJ o01, kO_oR o01, kO_oN o01, kO_oC o01, kO_oP o01, kO_pF o01, kJ_ha jl, kJ_ga jl, kJ_pa jl, kJ_hA jl, kJ_ln jl, eg, i32_64]
      repeat' (first | (exfalso; omega) | (with_reducible refine zb_in ?_ ?_ ?_ ?_; omega; omega; omega) | (with_reducible refine zb_le ?_ ?_ ?_ ?_ (fun _ => ?_) (fun _ => ?_); omega; omega; omega; omega) | (with_reducible refine zb_lt ?_ ?_ ?_ ?_ (fun _ => ?_) (fun _ => ?_); omega; omega; omega; omega) | (with_reducible refine zb_eq ?_ ?_ ?_ ?_ (fun _ => ?_) (fun _ => ?_); omega; omega; omega; omega) | (with_reducible refine zb_leL ?_ ?_ ?_ ?_ (fun _ => ?_) (fun _ => ?_); omega; omega; omega; omega) | (with_reducible refine zb_ltL ?_ ?_ ?_ ?_ (fun _ => ?_) (fun _ => ?_); omega; omega; omega; omega) | (with_reducible refine zb_eqL ?_ ?_ ?_ ?_ (fun _ => ?_) (fun _ => ?_); omega; omega; omega; omega) | (with_reducible refine zb_nz ?_ ?_ ?_ ?_; omega; omega; omega) | (with_reducible refine zb_nzL ?_ ?_ ?_ ?_; omega; omega; omega) | with_reducible refine zb_ite ?_ | with_reducible refine zb_iteL ?_ | ((with_reducible intro y hy); subst hy; try simp only [zl32, zl64, i32_add, i32_sub, i32_mul, i32_neg, i64_add, i64_sub, i64_mul, i64_neg, cv_gi, cv_gw, cv_ga, cv_gl, cv_pi, cv_pw, cv_pa, cv_pl, zf_S, zf_i, zf_l, mz1, mz2, mz3, mz4, zr_ii, zr_iw, zr_ia, zr_il, zr_wi, zr_ww, zr_wa, zr_wl, zr_ai, zr_aw, zr_aa, zr_al, zr_li, zr_lw, zr_la, zr_ll, zw_ii, zw_ww, zw_aa, zw_ll, reduceIte, Nat.reduceEqDiff, if_true, if_false]) | with_reducible refine zb_o1 ?_ | with_reducible refine zb_o2 ?_ | with_reducible refine zb_o3 ?_ | with_reducible refine zb_o4 ?_ | with_reducible refine zb_tr ?_ | exact trivial | with_reducible refine zb_T ?_ | with_reducible refine zb_sp ?_ ?_)
      refine kC_fmJ _ _ (by omega) (by omega) (by omega) (by omega) _ ?_
      try simp (disch := first | assumption | omega) only [zl32, zl64, i32_add, i32_sub, i32_mul, i32_neg, i64_add, i64_sub, i64_mul, i64_neg, cv_gi, cv_gw, cv_ga, cv_gl, cv_pi, cv_pw, cv_pa, cv_pl, zf_S, zf_i, zf_l, mz1, mz2, mz3, mz4, kn_haI, kn_haJ, kn_haQ, kn_gaI, kn_gaJ, kn_gaQ, kn_hoA, kn_hlen, kn_hfI, kn_hfJ, kn_hfR, kn_hfN, kn_hoI, kn_hoJ, kn_hoR, kn_hoN, kn_hoC, kn_hoP, kn_paI, kn_paJ, kn_paQ, kn_hpF, kuI_ha, kuI_ga, kuI_pa, kuI_hA, kuI_ln, kuB_ha, kuB_ga, kuB_pa, kuB_hA, kuB_ln, kuJ_ha, kuJ_ga, kuJ_pa, kuJ_hA, kuJ_ln, kuQ_ha, kuQ_ga, kuQ_pa, kuQ_hA, kuQ_ln, kuO_fI, kuO_fJ, kuO_fR, kuO_fN, kuO_oI, kuO_oJ, kuO_oR, kuO_oN, kuO_oC, kuO_oP, kuO_pF, kvI_s, kvJ_s, kvR_s, kvN_s, kvN_0, kvN_v, kpI_s, kpJ_s, kpR_s, kpN_s, kpN_0, kpN_v, List.getElem?_cons_zero, List.getElem?_cons_succ, List.set_cons_zero, List.set_cons_succ, List.length_cons, List.length_nil, forall_eq, exists_eq_left', Option.some.injEq, true_and, and_true, reduceIte, Nat.reduceEqDiff, Nat.reduceAdd, Nat.reduceLT, hup_hup, hup_at, eq_self, if_true, if_false, implies_true, true_implies, false_implies, not_true_eq_false, not_false_eq_true, or_true, true_or, i32_10, i32_01, kI_new, kB_new, kJ_new, kI_new2, kB_new2, kJ_new2, kQ_new, kO_new, zkd, zijd, zip1, zip, zim1, i32_natN, ziL, zi_0, zi_1]
      repeat' (first | (exfalso; omega) | (with_reducible refine zb_in ?_ ?_ ?_ ?_; omega; omega; omega) | (with_reducible refine zb_le ?_ ?_ ?_ ?_ (fun _ => ?_) (fun _ => ?_); omega; omega; omega; omega) | (with_reducible refine zb_lt ?_ ?_ ?_ ?_ (fun _ => ?_) (fun _ => ?_); omega; omega; omega; omega) | (with_reducible refine zb_eq ?_ ?_ ?_ ?_ (fun _ => ?_) (fun _ => ?_); omega; omega; omega; omega) | (with_reducible refine zb_leL ?_ ?_ ?_ ?_ (fun _ => ?_) (fun _ => ?_); omega; omega; omega; omega) | (with_reducible refine zb_ltL ?_ ?_ ?_ ?_ (fun _ => ?_) (fun _ => ?_); omega; omega; omega; omega) | (with_reducible refine zb_eqL ?_ ?_ ?_ ?_ (fun _ => ?_) (fun _ => ?_); omega; omega; omega; omega) | (with_reducible refine zb_nz ?_ ?_ ?_ ?_; omega; omega; omega) | (with_reducible refine zb_nzL ?_ ?_ ?_ ?_; omega; omega; omega) | with_reducible refine zb_ite ?_ | with_reducible refine zb_iteL ?_ | ((with_reducible intro y hy); subst hy; try simp only [zl32, zl64, i32_add, i32_sub, i32_mul, i32_neg, i64_add, i64_sub, i64_mul, i64_neg, cv_gi, cv_gw, cv_ga, cv_gl, cv_pi, cv_pw, cv_pa, cv_pl, zf_S, zf_i, zf_l, mz1, mz2, mz3, mz4, zr_ii, zr_iw, zr_ia, zr_il, zr_wi, zr_ww, zr_wa, zr_wl, zr_ai, zr_aw, zr_aa, zr_al, zr_li, zr_lw, zr_la, zr_ll, zw_ii, zw_ww, zw_aa, zw_ll, reduceIte, Nat.reduceEqDiff, if_true, if_false]) | with_reducible refine zb_o1 ?_ | with_reducible refine zb_o2 ?_ | with_reducible refine zb_o3 ?_ | with_reducible refine zb_o4 ?_ | with_reducible refine zb_tr ?_ | exact trivial | with_reducible refine zb_T ?_ | with_reducible refine zb_sp ?_ ?_)
      refine ih (k + 1) (by omega) X Y _ S1 gr lr rX rY ngl oT1 o01 nTg n0g jl (fun x hx => ?_) kc nc hQ
      by_cases c : x = k
      · subst c
        rw [zup_at, if_pos (by omega)]
      · rw [zup_ne _ _ c, hg x hx]
        by_cases c2 : x < k
        · rw [if_pos c2, if_pos (by omega)]
        · rw [if_neg c2, if_neg (by omega)]
  have L14 : ∀ (n i : Nat), i + n = ram → ∀ (f0 : Nat → Int) (S1 : hH) (g kc nc : Nat), zred M 9 f0 → kF kN S S1 → S g = none → S1 g = some (kJ 9 f0) → kc + n + 20 ≤ mc → nc + 9 * n + 180 ≤ ms → zit (fun f => zpm M f (zpK pa (zpL pa))) n f0 = zit (fun f => zpm M f (zpK pa (zpL pa))) ram (zone M 1) → wX6_nextKey_l14 mc ms Q T (w (zpL pa)) by_ (i32 root) (n + 1) kc nc S1 g (i32 i) := by
    intro n
    induction n with
    | zero =>
      intro i hi f0 S1 g kc nc rf hF hg jg hb1 hb2 hz
      have ob1 := hF.at ob (fun h => h)
      have om1 := hF.at om (fun h => h)
      have im1 := hF.at im (fun h => h)
      have oT1 := hF.at oT (fun h => h)
      have o01 := hF.at o0 (fun h => h)
      have hWS := hW.G (hF.G (m := m) (fun q h => h.elim))
      rw [wX6_nextKey_l14]
      try simp (disch := first | assumption | omega) only [zl32, zl64, i32_add, i32_sub, i32_mul, i32_neg, i64_add, i64_sub, i64_mul, i64_neg, cv_gi, cv_gw, cv_ga, cv_gl, cv_pi, cv_pw, cv_pa, cv_pl, zf_S, zf_i, zf_l, mz1, mz2, mz3, mz4, kn_haI, kn_haJ, kn_haQ, kn_gaI, kn_gaJ, kn_gaQ, kn_hoA, kn_hlen, kn_hfI, kn_hfJ, kn_hfR, kn_hfN, kn_hoI, kn_hoJ, kn_hoR, kn_hoN, kn_hoC, kn_hoP, kn_paI, kn_paJ, kn_paQ, kn_hpF, kuI_ha, kuI_ga, kuI_pa, kuI_hA, kuI_ln, kuB_ha, kuB_ga, kuB_pa, kuB_hA, kuB_ln, kuJ_ha, kuJ_ga, kuJ_pa, kuJ_hA, kuJ_ln, kuQ_ha, kuQ_ga, kuQ_pa, kuQ_hA, kuQ_ln, kuO_fI, kuO_fJ, kuO_fR, kuO_fN, kuO_oI, kuO_oJ, kuO_oR, kuO_oN, kuO_oC, kuO_oP, kuO_pF, kvI_s, kvJ_s, kvR_s, kvN_s, kvN_0, kvN_v, kpI_s, kpJ_s, kpR_s, kpN_s, kpN_0, kpN_v, List.getElem?_cons_zero, List.getElem?_cons_succ, List.set_cons_zero, List.set_cons_succ, List.length_cons, List.length_nil, forall_eq, exists_eq_left', Option.some.injEq, true_and, and_true, reduceIte, Nat.reduceEqDiff, Nat.reduceAdd, Nat.reduceLT, hup_hup, hup_at, eq_self, if_true, if_false, implies_true, true_implies, false_implies, not_true_eq_false, not_false_eq_true, or_true, true_or, i32_10, i32_01, kI_new, kB_new, kJ_new, kI_new2, kB_new2, kJ_new2, kQ_new, kO_new, zkd, zijd, zip1, zip, zim1, i32_natN, ziL, zi_0, zi_1, kO_fI ob1, kO_fJ ob1, kO_fR ob1, kO_fN ob1, kO_oI ob1, kO_oJ ob1, kO_oR ob1, kO_oN ob1, kO_oC ob1, kO_oP ob1, kO_pF ob1, kO_fI oT1, kO_fJ oT1, kO_fR oT1, kO_fN oT1, kO_oI oT1, kO_oJ oT1, kO_oR oT1, kO_oN oT1, kO_oC oT1, kO_oP oT1, kO_pF oT1, kvr_s]
      repeat' (first | (exfalso; omega) | (with_reducible refine zb_in ?_ ?_ ?_ ?_; omega; omega; omega) | (with_reducible refine zb_le ?_ ?_ ?_ ?_ (fun _ => ?_) (fun _ => ?_); omega; omega; omega; omega) | (with_reducible refine zb_lt ?_ ?_ ?_ ?_ (fun _ => ?_) (fun _ => ?_); omega; omega; omega; omega) | (with_reducible refine zb_eq ?_ ?_ ?_ ?_ (fun _ => ?_) (fun _ => ?_); omega; omega; omega; omega) | (with_reducible refine zb_leL ?_ ?_ ?_ ?_ (fun _ => ?_) (fun _ => ?_); omega; omega; omega; omega) | (with_reducible refine zb_ltL ?_ ?_ ?_ ?_ (fun _ => ?_) (fun _ => ?_); omega; omega; omega; omega) | (with_reducible refine zb_eqL ?_ ?_ ?_ ?_ (fun _ => ?_) (fun _ => ?_); omega; omega; omega; omega) | (with_reducible refine zb_nz ?_ ?_ ?_ ?_; omega; omega; omega) | (with_reducible refine zb_nzL ?_ ?_ ?_ ?_; omega; omega; omega) | with_reducible refine zb_ite ?_ | with_reducible refine zb_iteL ?_ | ((with_reducible intro y hy); subst hy; try simp only [zl32, zl64, i32_add, i32_sub, i32_mul, i32_neg, i64_add, i64_sub, i64_mul, i64_neg, cv_gi, cv_gw, cv_ga, cv_gl, cv_pi, cv_pw, cv_pa, cv_pl, zf_S, zf_i, zf_l, mz1, mz2, mz3, mz4, zr_ii, zr_iw, zr_ia, zr_il, zr_wi, zr_ww, zr_wa, zr_wl, zr_ai, zr_aw, zr_aa, zr_al, zr_li, zr_lw, zr_la, zr_ll, zw_ii, zw_ww, zw_aa, zw_ll, reduceIte, Nat.reduceEqDiff, if_true, if_false]) | with_reducible refine zb_o1 ?_ | with_reducible refine zb_o2 ?_ | with_reducible refine zb_o3 ?_ | with_reducible refine zb_o4 ?_ | with_reducible refine zb_tr ?_ | exact trivial | with_reducible refine zb_T ?_ | with_reducible refine zb_sp ?_ ?_)
      refine ⟨16, 144, by omega, by omega, ?_⟩
      refine kC_asNumbers o01 hp hMp hM hM2 oT1 hWS hv om1 im1 h0 hsm 16 144 (by omega) (by omega) _ (fun S2 r hr hF2 jr => ?_)
      have hF02 := hF.trans' hF2
      have oT2 := hF02.at oT (fun h => h)
      have o02 := hF02.at o0 (fun h => h)
      have jg2 := hF2.at jg (fun h => h)
      have ngr : g ≠ r := kne jg hr
      have := L58 9 0 rfl f0 (zls M p pa sm (zpL pa - 1)) f0 S2 g r rf (zls_red (by omega) pa sm _) ngr oT2 o02 (kne oT hg) (kne o0 hg) jr (fun x _ => by rw [if_neg (by omega)]) (kc + 16) (nc + 144) ?_
      · rw [hup_id jg2] at this
        refine ⟨10, ?_⟩
        try simp only [zl32, zl64, i32_add, i32_sub, i32_mul, i32_neg, i64_add, i64_sub, i64_mul, i64_neg, cv_gi, cv_gw, cv_ga, cv_gl, cv_pi, cv_pw, cv_pa, cv_pl, zf_S, zf_i, zf_l, mz1, mz2, mz3, mz4]
        exact this
      · have e : kJ 9 (fun x => (f0 x - root * zls M p pa sm (zpL pa - 1) x) % M) = kJ 9 (znk M p pa ram sm root) := by
          refine kJ_ext (fun k hk => ?_)
          unfold znk
          rw [← hz, zlv_ls pa sm root (zpL pa - 1) k hk, ze_subm]
          rfl
        rw [e]
        refine q _ g hg (fun x y hx hm => ?_) (hup_at _ _ _)
        rw [hup_ne (kne hx hg)]
        exact hF02 x y hx hm
    | succ n ih =>
      intro i hi f0 S1 g kc nc rf hF hg jg hb1 hb2 hz
      have ob1 := hF.at ob (fun h => h)
      have oT1 := hF.at oT (fun h => h)
      have o01 := hF.at o0 (fun h => h)
      have hWS := hW.G (hF.G (m := m) (fun q h => h.elim))
      obtain ⟨rootL', mfL', nuL', kaL', woL', ptL', slL', fiL', ixL', oL', jL', _⟩ := hWS.1 (zpL pa) hv.1 (Nat.le_refl _)
      have oL1' := oL'.1
      rw [wX6_nextKey_l14]
      try simp (disch := first | assumption | omega) only [zl32, zl64, i32_add, i32_sub, i32_mul, i32_neg, i64_add, i64_sub, i64_mul, i64_neg, cv_gi, cv_gw, cv_ga, cv_gl, cv_pi, cv_pw, cv_pa, cv_pl, zf_S, zf_i, zf_l, mz1, mz2, mz3, mz4, kn_haI, kn_haJ, kn_haQ, kn_gaI, kn_gaJ, kn_gaQ, kn_hoA, kn_hlen, kn_hfI, kn_hfJ, kn_hfR, kn_hfN, kn_hoI, kn_hoJ, kn_hoR, kn_hoN, kn_hoC, kn_hoP, kn_paI, kn_paJ, kn_paQ, kn_hpF, kuI_ha, kuI_ga, kuI_pa, kuI_hA, kuI_ln, kuB_ha, kuB_ga, kuB_pa, kuB_hA, kuB_ln, kuJ_ha, kuJ_ga, kuJ_pa, kuJ_hA, kuJ_ln, kuQ_ha, kuQ_ga, kuQ_pa, kuQ_hA, kuQ_ln, kuO_fI, kuO_fJ, kuO_fR, kuO_fN, kuO_oI, kuO_oJ, kuO_oR, kuO_oN, kuO_oC, kuO_oP, kuO_pF, kvI_s, kvJ_s, kvR_s, kvN_s, kvN_0, kvN_v, kpI_s, kpJ_s, kpR_s, kpN_s, kpN_0, kpN_v, List.getElem?_cons_zero, List.getElem?_cons_succ, List.set_cons_zero, List.set_cons_succ, List.length_cons, List.length_nil, forall_eq, exists_eq_left', Option.some.injEq, true_and, and_true, reduceIte, Nat.reduceEqDiff, Nat.reduceAdd, Nat.reduceLT, hup_hup, hup_at, eq_self, if_true, if_false, implies_true, true_implies, false_implies, not_true_eq_false, not_false_eq_true, or_true, true_or, i32_10, i32_01, kI_new, kB_new, kJ_new, kI_new2, kB_new2, kJ_new2, kQ_new, kO_new, zkd, zijd, zip1, zip, zim1, i32_natN, ziL, zi_0, zi_1, kO_fI ob1, kO_fJ ob1, kO_fR ob1, kO_fN ob1, kO_oI ob1, kO_oJ ob1, kO_oR ob1, kO_oN ob1, kO_oC ob1, kO_oP ob1, kO_pF ob1, kO_fI oT1, kO_fJ oT1, kO_fR oT1, kO_fN oT1, kO_oI oT1, kO_oJ oT1, kO_oR oT1, kO_oN oT1, kO_oC oT1, kO_oP oT1, kO_pF oT1, kO_fI oL1', kO_fJ oL1', kO_fR oL1', kO_fN oL1', kO_oI oL1', kO_oJ oL1', kO_oR oL1', kO_oN oL1', kO_oC oL1', kO_oP oL1', kO_pF oL1', kO_fI o01, kO_fJ o01, kO_fR o01, kO_fN o01, kO_oI o01, kO_oJ o01, kO_oR o01, kO_oN o01, kO_oC o01, kO_oP o01, kO_pF o01]
      repeat' (first | (exfalso; omega) | (with_reducible refine zb_in ?_ ?_ ?_ ?_; omega; omega; omega) | (with_reducible refine zb_le ?_ ?_ ?_ ?_ (fun _ => ?_) (fun _ => ?_); omega; omega; omega; omega) | (with_reducible refine zb_lt ?_ ?_ ?_ ?_ (fun _ => ?_) (fun _ => ?_); omega; omega; omega; omega) | (with_reducible refine zb_eq ?_ ?_ ?_ ?_ (fun _ => ?_) (fun _ => ?_); omega; omega; omega; omega) | (with_reducible refine zb_leL ?_ ?_ ?_ ?_ (fun _ => ?_) (fun _ => ?_); omega; omega; omega; omega) | (with_reducible refine zb_ltL ?_ ?_ ?_ ?_ (fun _ => ?_) (fun _ => ?_); omega; omega; omega; omega) | (with_reducible refine zb_eqL ?_ ?_ ?_ ?_ (fun _ => ?_) (fun _ => ?_); omega; omega; omega; omega) | (with_reducible refine zb_nz ?_ ?_ ?_ ?_; omega; omega; omega) | (with_reducible refine zb_nzL ?_ ?_ ?_ ?_; omega; omega; omega) | with_reducible refine zb_ite ?_ | with_reducible refine zb_iteL ?_ | ((with_reducible intro y hy); subst hy; try simp only [zl32, zl64, i32_add, i32_sub, i32_mul, i32_neg, i64_add, i64_sub, i64_mul, i64_neg, cv_gi, cv_gw, cv_ga, cv_gl, cv_pi, cv_pw, cv_pa, cv_pl, zf_S, zf_i, zf_l, mz1, mz2, mz3, mz4, zr_ii, zr_iw, zr_ia, zr_il, zr_wi, zr_ww, zr_wa, zr_wl, zr_ai, zr_aw, zr_aa, zr_al, zr_li, zr_lw, zr_la, zr_ll, zw_ii, zw_ww, zw_aa, zw_ll, reduceIte, Nat.reduceEqDiff, if_true, if_false]) | with_reducible refine zb_o1 ?_ | with_reducible refine zb_o2 ?_ | with_reducible refine zb_o3 ?_ | with_reducible refine zb_o4 ?_ | with_reducible refine zb_tr ?_ | exact trivial | with_reducible refine zb_T ?_ | with_reducible refine zb_sp ?_ ?_)
      refine ⟨1, 9, by omega, by omega, ?_⟩
      refine kC_product o01 jg jL'.1 hM hM2 rf (hv.2.2.2.2.2 (zpL pa) hL1 (Nat.le_refl _)) 1 9 (by omega) (by omega) _ (fun r hr => ?_)
      refine ih (i + 1) (by omega) (zpm M f0 (zpK pa (zpL pa))) _ r _ _ (zpm_red (by omega)) (hF.trans' (kF.new hr)) ?_ (hup_at _ _ _) (by omega) (by omega) hz
      rcases hzz : S r with _ | y
      · rfl
      · rw [hF r y hzz (fun h => h)] at hr
        cases hr
  unfold wX6_nextKey
  refine ⟨by omega, by omega, ?_⟩
  intro g hg
  try simp (disch := first | assumption | omega) only [zl32, zl64, i32_add, i32_sub, i32_mul, i32_neg, i64_add, i64_sub, i64_mul, i64_neg, cv_gi, cv_gw, cv_ga, cv_gl, cv_pi, cv_pw, cv_pa, cv_pl, zf_S, zf_i, zf_l, mz1, mz2, mz3, mz4, kn_haI, kn_haJ, kn_haQ, kn_gaI, kn_gaJ, kn_gaQ, kn_hoA, kn_hlen, kn_hfI, kn_hfJ, kn_hfR, kn_hfN, kn_hoI, kn_hoJ, kn_hoR, kn_hoN, kn_hoC, kn_hoP, kn_paI, kn_paJ, kn_paQ, kn_hpF, kuI_ha, kuI_ga, kuI_pa, kuI_hA, kuI_ln, kuB_ha, kuB_ga, kuB_pa, kuB_hA, kuB_ln, kuJ_ha, kuJ_ga, kuJ_pa, kuJ_hA, kuJ_ln, kuQ_ha, kuQ_ga, kuQ_pa, kuQ_hA, kuQ_ln, kuO_fI, kuO_fJ, kuO_fR, kuO_fN, kuO_oI, kuO_oJ, kuO_oR, kuO_oN, kuO_oC, kuO_oP, kuO_pF, kvI_s, kvJ_s, kvR_s, kvN_s, kvN_0, kvN_v, kpI_s, kpJ_s, kpR_s, kpN_s, kpN_0, kpN_v, List.getElem?_cons_zero, List.getElem?_cons_succ, List.set_cons_zero, List.set_cons_succ, List.length_cons, List.length_nil, forall_eq, exists_eq_left', Option.some.injEq, true_and, and_true, reduceIte, Nat.reduceEqDiff, Nat.reduceAdd, Nat.reduceLT, hup_hup, hup_at, eq_self, if_true, if_false, implies_true, true_implies, false_implies, not_true_eq_false, not_false_eq_true, or_true, true_or, i32_10, i32_01, kI_new, kB_new, kJ_new, kI_new2, kB_new2, kJ_new2, kQ_new, kO_new, zkd, zijd, zip1, zip, zim1, i32_natN, ziL, zi_0, zi_1]
  repeat' (first | (exfalso; omega) | (with_reducible refine zb_in ?_ ?_ ?_ ?_; omega; omega; omega) | (with_reducible refine zb_le ?_ ?_ ?_ ?_ (fun _ => ?_) (fun _ => ?_); omega; omega; omega; omega) | (with_reducible refine zb_lt ?_ ?_ ?_ ?_ (fun _ => ?_) (fun _ => ?_); omega; omega; omega; omega) | (with_reducible refine zb_eq ?_ ?_ ?_ ?_ (fun _ => ?_) (fun _ => ?_); omega; omega; omega; omega) | (with_reducible refine zb_leL ?_ ?_ ?_ ?_ (fun _ => ?_) (fun _ => ?_); omega; omega; omega; omega) | (with_reducible refine zb_ltL ?_ ?_ ?_ ?_ (fun _ => ?_) (fun _ => ?_); omega; omega; omega; omega) | (with_reducible refine zb_eqL ?_ ?_ ?_ ?_ (fun _ => ?_) (fun _ => ?_); omega; omega; omega; omega) | (with_reducible refine zb_nz ?_ ?_ ?_ ?_; omega; omega; omega) | (with_reducible refine zb_nzL ?_ ?_ ?_ ?_; omega; omega; omega) | with_reducible refine zb_ite ?_ | with_reducible refine zb_iteL ?_ | ((with_reducible intro y hy); subst hy; try simp only [zl32, zl64, i32_add, i32_sub, i32_mul, i32_neg, i64_add, i64_sub, i64_mul, i64_neg, cv_gi, cv_gw, cv_ga, cv_gl, cv_pi, cv_pw, cv_pa, cv_pl, zf_S, zf_i, zf_l, mz1, mz2, mz3, mz4, zr_ii, zr_iw, zr_ia, zr_il, zr_wi, zr_ww, zr_wa, zr_wl, zr_ai, zr_aw, zr_aa, zr_al, zr_li, zr_lw, zr_la, zr_ll, zw_ii, zw_ww, zw_aa, zw_ll, reduceIte, Nat.reduceEqDiff, if_true, if_false]) | with_reducible refine zb_o1 ?_ | with_reducible refine zb_o2 ?_ | with_reducible refine zb_o3 ?_ | with_reducible refine zb_o4 ?_ | with_reducible refine zb_tr ?_ | exact trivial | with_reducible refine zb_T ?_ | with_reducible refine zb_sp ?_ ?_)
  refine ⟨ram + 1, ?_⟩
  refine L14 ram 0 (by omega) _ _ g _ _ ?_ (kF.new hg) hg (hup_at _ _ _) (by omega) (by omega) ?_
  · intro x hx
    unfold zup
    dsimp only
    by_cases c : x = 0
    · rw [if_pos c]; omega
    · rw [if_neg c]; omega
  · congr 1
    funext x
    unfold zup zone
    by_cases c : x = 0
    · rw [if_pos c, if_pos c, Int.emod_eq_of_lt (by omega) hM]
    · rw [if_neg c, if_neg c]
