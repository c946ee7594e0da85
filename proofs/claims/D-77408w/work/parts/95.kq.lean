/-! CLASS 17: heads: meets -/
set_option maxRecDepth 100000
theorem zvl_pw {p : Int} (hp : 2 ≤ p) : ∀ (n : Nat) (v : Int), 0 < v → 1 ≤ p ^ zvl p n v ∧ p ^ zvl p n v ≤ v := by
  intro n
  induction n with
  | zero =>
    intro v h
    unfold zvl
    rw [Int.pow_zero]
    omega
  | succ n ih =>
    intro v h
    unfold zvl
    by_cases c : v % p = 0
    · rw [if_pos c, Int.pow_succ]
      have hdm := Int.emod_add_mul_ediv v p
      have hd0 := Int.ediv_nonneg (a := v) (b := p) (by omega) (by omega)
      have hv : 0 < v / p := by
        rcases Int.lt_or_eq_of_le hd0 with e | e
        · exact e
        · rw [← e] at hdm
          omega
      obtain ⟨e1, e2⟩ := ih (v / p) hv
      have e3 : p ^ zvl p n (v / p) * p ≤ v / p * p := Int.mul_le_mul_of_nonneg_right e2 (by omega)
      have e4 : 1 * 1 ≤ p ^ zvl p n (v / p) * p := Int.mul_le_mul e1 (by omega) (by omega) (by omega)
      rw [Int.mul_comm (v / p)] at e3
      omega
    · rw [if_neg c, Int.pow_zero]
      omega
theorem zvl_le {p : Int} : ∀ (n : Nat) (v : Int), zvl p n v ≤ n := by
  intro n
  induction n with
  | zero => intro v; exact Nat.le_refl _
  | succ n ih =>
    intro v
    unfold zvl
    split
    · have := ih (v / p)
      omega
    · omega
noncomputable abbrev kTo (fa : Nat) (dg : Int) (L1 L2 P : Nat) (hd : Option Nat) (hv : Int) (x0 : Nat) : hE_ := kO 6 [.ref fa, .int (i32 dg), .ref L1, .ref L2, .ref P, va_rf hd, .long (i64 hv), .ref x0]
def zhmj (M p : Int) (pa : zP) (a : Nat → Int) (j : Nat) : Nat → Int := fun k => if k = 0 then (zval p (zcf M pa a j) : Int) else if k < zpL pa then (zdg pa j k : Int) else 0
def zhrj (M p : Int) (pa : zP) (a : Nat → Int) (j : Nat) : Int := zcf M pa a j / p ^ zval p (zcf M pa a j) % p
/-- the digits of a place -/
def zdgs (pa : zP) (j : Nat) : Nat → Int := fun k => if k = 0 then 0 else if k < zpL pa then (zdg pa j k : Int) else 0
/-- the best head so far: B its value and place; its cells came after S0 -/
def kBest (S0 S : hH) (M p : Int) (pa : zP) (a : Nat → Int) (hd : Option Nat) (hv : Int) (B : Int × Int) : Prop :=
  (B.1 < 0 ∧ hd = none) ∨ (0 ≤ B.1 ∧ B.1 < 1000000 ∧ hv = B.1 ∧ ∃ h t, hd = some h ∧ S0 h = none ∧ S0 t = none ∧ S h = some (kMo t (zhrj M p pa a B.2.toNat)) ∧ S t = some (kI 7 (zhmj M p pa a B.2.toNat)))
theorem zhmj_up {M p : Int} {pa : zP} {a : Nat → Int} {j : Nat} : zup (zdgs pa j) 0 (zval p (zcf M pa a j)) = zhmj M p pa a j := by
  funext k
  unfold zup zdgs zhmj
  by_cases c : k = 0
  · rw [if_pos c, if_pos c]
  · rw [if_neg c, if_neg c, if_neg c]
theorem kC_meets64 {S0 S : hH} {A : Nat → Nat} {p M : Int} {tr : Option Nat} (o0 : S (A 0) = some (kOb A p M tr)) (hp2 : 2 ≤ p) (hp7 : p ≤ 7) {pa : zP} {a : Nat → Int} {T fa L1 L2 P : Nat} {dg hv0 : Int} {hd0 : Option Nat} {j : Nat} (oT : S T = some (kTo fa dg L1 L2 P hd0 hv0 (A 0))) (iP : S P = some (kI 7 (zdgs pa j))) (hc : 0 < zcf M pa a j) (hc2 : zcf M pa a j < 536870912) {h t : Nat} {r : Int} {μ : Nat → Int} (oh : S h = some (kMo t r)) (it : S t = some (kI 7 μ)) (nTP : t ≠ P) (h0 : S0 h = none) (t0 : S0 t = none) (all : Int) (ha : 0 ≤ all) (ha2 : all < 1000000) (mc ms kc nc : Nat) (Q : hH → Prop)
    (q : ∀ S1, kF (fun q => q = T ∨ q = h ∨ q = t) S S1 → S1 T = some (kTo fa dg L1 L2 P (some h) all (A 0)) → kBest S0 S1 M p pa a (some h) all (all, j) → Q S1) : wX6_meets_j64 mc ms Q kc nc S T (i64 (zcf M pa a j)) P (i32 (zval p (zcf M pa a j))) (i64 all) (some h) T := by
  have hpw := zvl_pw hp2 30 (zcf M pa a j) hc
  have hle := zvl_le (p := p) 30 (zcf M pa a j)
  rw [show zvl p 30 (zcf M pa a j) = zval p (zcf M pa a j) from rfl] at hpw hle
  have nTh : T ≠ h := kne2 oT oh (by intro e; cases e)
  have nhT : h ≠ T := fun e => nTh e.symm
  have nTt : T ≠ t := kne2 oT it (by intro e; cases e)
  have ntT : t ≠ T := fun e => nTt e.symm
  have nPT : P ≠ T := kne2 iP oT (by intro e; cases e)
  have nht : h ≠ t := kne2 oh it (by intro e; cases e)
  have nth : t ≠ h := fun e => nht e.symm
  have n0T : A 0 ≠ T := kne2 o0 oT (by intro e; cases e)
  have n0h : A 0 ≠ h := kne2 o0 oh (by intro e; cases e)
  have n0t : A 0 ≠ t := kne2 o0 it (by intro e; cases e)
  unfold wX6_meets_j64
  try simp (disch := first | assumption | omega) only [zl32, zl64, i32_add, i32_sub, i32_mul, i32_neg, i64_add, i64_sub, i64_mul, i64_neg, cv_gi, cv_gw, cv_ga, cv_gl, cv_pi, cv_pw, cv_pa, cv_pl, zf_S, zf_i, zf_l, mz1, mz2, mz3, mz4, kn_haI, kn_haJ, kn_haQ, kn_gaI, kn_gaJ, kn_gaQ, kn_hoA, kn_hlen, kn_hfI, kn_hfJ, kn_hfR, kn_hfN, kn_hoI, kn_hoJ, kn_hoR, kn_hoN, kn_hoC, kn_hoP, kn_paI, kn_paJ, kn_paQ, kn_hpF, kuI_ha, kuI_ga, kuI_pa, kuI_hA, kuI_ln, kuB_ha, kuB_ga, kuB_pa, kuB_hA, kuB_ln, kuJ_ha, kuJ_ga, kuJ_pa, kuJ_hA, kuJ_ln, kuQ_ha, kuQ_ga, kuQ_pa, kuQ_hA, kuQ_ln, kuO_fI, kuO_fJ, kuO_fR, kuO_fN, kuO_oI, kuO_oJ, kuO_oR, kuO_oN, kuO_oC, kuO_oP, kuO_pF, kvI_s, kvJ_s, kvR_s, kvN_s, kvN_0, kvN_v, kpI_s, kpJ_s, kpR_s, kpN_s, kpN_0, kpN_v, List.getElem?_cons_zero, List.getElem?_cons_succ, List.set_cons_zero, List.set_cons_succ, List.length_cons, List.length_nil, forall_eq, exists_eq_left', Option.some.injEq, true_and, and_true, reduceIte, Nat.reduceEqDiff, Nat.reduceAdd, Nat.reduceLT, hup_hup, hup_at, eq_self, if_true, if_false, implies_true, true_implies, false_implies, not_true_eq_false, not_false_eq_true, or_true, true_or, i32_10, i32_01, kI_new, kB_new, kJ_new, kI_new2, kB_new2, kJ_new2, kQ_new, kO_new, zkd, zijd, zip1, zip, zim1, i32_natN, ziL, zi_0, zi_1, kO_fI oT, kO_fJ oT, kO_fR oT, kO_fN oT, kO_oI oT, kO_oJ oT, kO_oR oT, kO_oN oT, kO_oC oT, kO_oP oT, kO_pF oT, kO_fI oh, kO_fJ oh, kO_fR oh, kO_fN oh, kO_oI oh, kO_oJ oh, kO_oR oh, kO_oN oh, kO_oC oh, kO_oP oh, kO_pF oh, kvr_s]
  refine ⟨7, _, 7, _, by rw [hup_ne nPT]; exact iP, by rw [hup_ne ntT]; exact it, by omega, by omega, ?_⟩
  rw [kI_cpy]
  try simp (disch := first | assumption | omega) only [zl32, zl64, i32_add, i32_sub, i32_mul, i32_neg, i64_add, i64_sub, i64_mul, i64_neg, cv_gi, cv_gw, cv_ga, cv_gl, cv_pi, cv_pw, cv_pa, cv_pl, zf_S, zf_i, zf_l, mz1, mz2, mz3, mz4, kn_haI, kn_haJ, kn_haQ, kn_gaI, kn_gaJ, kn_gaQ, kn_hoA, kn_hlen, kn_hfI, kn_hfJ, kn_hfR, kn_hfN, kn_hoI, kn_hoJ, kn_hoR, kn_hoN, kn_hoC, kn_hoP, kn_paI, kn_paJ, kn_paQ, kn_hpF, kuI_ha, kuI_ga, kuI_pa, kuI_hA, kuI_ln, kuB_ha, kuB_ga, kuB_pa, kuB_hA, kuB_ln, kuJ_ha, kuJ_ga, kuJ_pa, kuJ_hA, kuJ_ln, kuQ_ha, kuQ_ga, kuQ_pa, kuQ_hA, kuQ_ln, kuO_fI, kuO_fJ, kuO_fR, kuO_fN, kuO_oI, kuO_oJ, kuO_oR, kuO_oN, kuO_oC, kuO_oP, kuO_pF, kvI_s, kvJ_s, kvR_s, kvN_s, kvN_0, kvN_v, kpI_s, kpJ_s, kpR_s, kpN_s, kpN_0, kpN_v, List.getElem?_cons_zero, List.getElem?_cons_succ, List.set_cons_zero, List.set_cons_succ, List.length_cons, List.length_nil, forall_eq, exists_eq_left', Option.some.injEq, true_and, and_true, reduceIte, Nat.reduceEqDiff, Nat.reduceAdd, Nat.reduceLT, hup_hup, hup_at, eq_self, if_true, if_false, implies_true, true_implies, false_implies, not_true_eq_false, not_false_eq_true, or_true, true_or, i32_10, i32_01, kI_new, kB_new, kJ_new, kI_new2, kB_new2, kJ_new2, kQ_new, kO_new, zkd, zijd, zip1, zip, zim1, i32_natN, ziL, zi_0, zi_1, kO_fI oT, kO_fJ oT, kO_fR oT, kO_fN oT, kO_oI oT, kO_oJ oT, kO_oR oT, kO_oN oT, kO_oC oT, kO_oP oT, kO_pF oT, kO_fI oh, kO_fJ oh, kO_fR oh, kO_fN oh, kO_oI oh, kO_oJ oh, kO_oR oh, kO_oN oh, kO_oC oh, kO_oP oh, kO_pF oh, kvr_s]
  repeat' (first | (exfalso; omega) | (with_reducible refine zb_in ?_ ?_ ?_ ?_; omega; omega; omega) | (with_reducible refine zb_le ?_ ?_ ?_ ?_ (fun _ => ?_) (fun _ => ?_); omega; omega; omega; omega) | (with_reducible refine zb_lt ?_ ?_ ?_ ?_ (fun _ => ?_) (fun _ => ?_); omega; omega; omega; omega) | (with_reducible refine zb_eq ?_ ?_ ?_ ?_ (fun _ => ?_) (fun _ => ?_); omega; omega; omega; omega) | (with_reducible refine zb_leL ?_ ?_ ?_ ?_ (fun _ => ?_) (fun _ => ?_); omega; omega; omega; omega) | (with_reducible refine zb_ltL ?_ ?_ ?_ ?_ (fun _ => ?_) (fun _ => ?_); omega; omega; omega; omega) | (with_reducible refine zb_eqL ?_ ?_ ?_ ?_ (fun _ => ?_) (fun _ => ?_); omega; omega; omega; omega) | (with_reducible refine zb_nz ?_ ?_ ?_ ?_; omega; omega; omega) | (with_reducible refine zb_nzL ?_ ?_ ?_ ?_; omega; omega; omega) | with_reducible refine zb_ite ?_ | with_reducible refine zb_iteL ?_ | ((with_reducible intro y hy); subst hy; try simp only [zl32, zl64, i32_add, i32_sub, i32_mul, i32_neg, i64_add, i64_sub, i64_mul, i64_neg, cv_gi, cv_gw, cv_ga, cv_gl, cv_pi, cv_pw, cv_pa, cv_pl, zf_S, zf_i, zf_l, mz1, mz2, mz3, mz4, zr_ii, zr_iw, zr_ia, zr_il, zr_wi, zr_ww, zr_wa, zr_wl, zr_ai, zr_aw, zr_aa, zr_al, zr_li, zr_lw, zr_la, zr_ll, zw_ii, zw_ww, zw_aa, zw_ll, reduceIte, Nat.reduceEqDiff, if_true, if_false]) | with_reducible refine zb_o1 ?_ | with_reducible refine zb_o2 ?_ | with_reducible refine zb_o3 ?_ | with_reducible refine zb_o4 ?_ | with_reducible refine zb_tr ?_ | exact trivial | with_reducible refine zb_T ?_ | with_reducible refine zb_sp ?_ ?_)
  try simp (disch := first | assumption | omega) only [zl32, zl64, i32_add, i32_sub, i32_mul, i32_neg, i64_add, i64_sub, i64_mul, i64_neg, cv_gi, cv_gw, cv_ga, cv_gl, cv_pi, cv_pw, cv_pa, cv_pl, zf_S, zf_i, zf_l, mz1, mz2, mz3, mz4, kn_haI, kn_haJ, kn_haQ, kn_gaI, kn_gaJ, kn_gaQ, kn_hoA, kn_hlen, kn_hfI, kn_hfJ, kn_hfR, kn_hfN, kn_hoI, kn_hoJ, kn_hoR, kn_hoN, kn_hoC, kn_hoP, kn_paI, kn_paJ, kn_paQ, kn_hpF, kuI_ha, kuI_ga, kuI_pa, kuI_hA, kuI_ln, kuB_ha, kuB_ga, kuB_pa, kuB_hA, kuB_ln, kuJ_ha, kuJ_ga, kuJ_pa, kuJ_hA, kuJ_ln, kuQ_ha, kuQ_ga, kuQ_pa, kuQ_hA, kuQ_ln, kuO_fI, kuO_fJ, kuO_fR, kuO_fN, kuO_oI, kuO_oJ, kuO_oR, kuO_oN, kuO_oC, kuO_oP, kuO_pF, kvI_s, kvJ_s, kvR_s, kvN_s, kvN_0, kvN_v, kpI_s, kpJ_s, kpR_s, kpN_s, kpN_0, kpN_v, List.getElem?_cons_zero, List.getElem?_cons_succ, List.set_cons_zero, List.set_cons_succ, List.length_cons, List.length_nil, forall_eq, exists_eq_left', Option.some.injEq, true_and, and_true, reduceIte, Nat.reduceEqDiff, Nat.reduceAdd, Nat.reduceLT, hup_hup, hup_at, eq_self, if_true, if_false, implies_true, true_implies, false_implies, not_true_eq_false, not_false_eq_true, or_true, true_or, i32_10, i32_01, kI_new, kB_new, kJ_new, kI_new2, kB_new2, kJ_new2, kQ_new, kO_new, zkd, zijd, zip1, zip, zim1, i32_natN, ziL, zi_0, zi_1, kO_fI o0, kO_fJ o0, kO_fR o0, kO_fN o0, kO_oI o0, kO_oJ o0, kO_oR o0, kO_oN o0, kO_oC o0, kO_oP o0, kO_pF o0, kO_fI oT, kO_fJ oT, kO_fR oT, kO_fN oT, kO_oI oT, kO_oJ oT, kO_oR oT, kO_oN oT, kO_oC oT, kO_oP oT, kO_pF oT, kO_fI oh, kO_fJ oh, kO_fR oh, kO_fN oh, kO_oI oh, kO_oJ oh, kO_oR oh, kO_oN oh, kO_oC oh, kO_oP oh, kO_pF oh, kvr_s]
  rw [i32_64 (by omega) (by omega)]
  refine kC_power p (zval p (zcf M pa a j)) (by omega) _ ?_
  have c1 : ¬ i64 (p ^ zval p (zcf M pa a j)) = i64 0 := fun e => by rw [i64_eq (by omega) (by omega) (by omega) (by omega)] at e; omega
  have c2 : ¬ i64 p = i64 0 := fun e => by rw [i64_eq (by omega) (by omega) (by omega) (by omega)] at e; omega
  try simp (disch := first | assumption | omega) only [zl32, zl64, i32_add, i32_sub, i32_mul, i32_neg, i64_add, i64_sub, i64_mul, i64_neg, cv_gi, cv_gw, cv_ga, cv_gl, cv_pi, cv_pw, cv_pa, cv_pl, zf_S, zf_i, zf_l, mz1, mz2, mz3, mz4, kn_haI, kn_haJ, kn_haQ, kn_gaI, kn_gaJ, kn_gaQ, kn_hoA, kn_hlen, kn_hfI, kn_hfJ, kn_hfR, kn_hfN, kn_hoI, kn_hoJ, kn_hoR, kn_hoN, kn_hoC, kn_hoP, kn_paI, kn_paJ, kn_paQ, kn_hpF, kuI_ha, kuI_ga, kuI_pa, kuI_hA, kuI_ln, kuB_ha, kuB_ga, kuB_pa, kuB_hA, kuB_ln, kuJ_ha, kuJ_ga, kuJ_pa, kuJ_hA, kuJ_ln, kuQ_ha, kuQ_ga, kuQ_pa, kuQ_hA, kuQ_ln, kuO_fI, kuO_fJ, kuO_fR, kuO_fN, kuO_oI, kuO_oJ, kuO_oR, kuO_oN, kuO_oC, kuO_oP, kuO_pF, kvI_s, kvJ_s, kvR_s, kvN_s, kvN_0, kvN_v, kpI_s, kpJ_s, kpR_s, kpN_s, kpN_0, kpN_v, List.getElem?_cons_zero, List.getElem?_cons_succ, List.set_cons_zero, List.set_cons_succ, List.length_cons, List.length_nil, forall_eq, exists_eq_left', Option.some.injEq, true_and, and_true, reduceIte, Nat.reduceEqDiff, Nat.reduceAdd, Nat.reduceLT, hup_hup, hup_at, eq_self, if_true, if_false, implies_true, true_implies, false_implies, not_true_eq_false, not_false_eq_true, or_true, true_or, i32_10, i32_01, kI_new, kB_new, kJ_new, kI_new2, kB_new2, kJ_new2, kQ_new, kO_new, zkd, zijd, zip1, zip, zim1, i32_natN, ziL, zi_0, zi_1, kO_fI o0, kO_fJ o0, kO_fR o0, kO_fN o0, kO_oI o0, kO_oJ o0, kO_oR o0, kO_oN o0, kO_oC o0, kO_oP o0, kO_pF o0, kO_fI oT, kO_fJ oT, kO_fR oT, kO_fN oT, kO_oI oT, kO_oJ oT, kO_oR oT, kO_oN oT, kO_oC oT, kO_oP oT, kO_pF oT, kO_fI oh, kO_fJ oh, kO_fR oh, kO_fN oh, kO_oI oh, kO_oJ oh, kO_oR oh, kO_oN oh, kO_oC oh, kO_oP oh, kO_pF oh, kvr_s, c1, c2, i32_64]
  rw [i64_div (by omega) (by omega) (by omega) (by omega), ze_tdivn (by omega)]
  have hd0 := Int.ediv_nonneg (a := zcf M pa a j) (b := p ^ zval p (zcf M pa a j)) (by omega) (by omega)
  have hd1 := Int.ediv_le_self (a := zcf M pa a j) (p ^ zval p (zcf M pa a j)) (by omega)
  rw [i64_div (by omega) (by omega) (by omega) (by omega)]
  try simp only [zl32, zl64, i32_add, i32_sub, i32_mul, i32_neg, i64_add, i64_sub, i64_mul, i64_neg, cv_gi, cv_gw, cv_ga, cv_gl, cv_pi, cv_pw, cv_pa, cv_pl, zf_S, zf_i, zf_l, mz1, mz2, mz3, mz4]
  rw [ze_tmod, ze_tmodn hd0, i64_32]
  refine q _ ?_ ?_ ?_
  · intro x y hx hm
    have e1 : x ≠ T := fun e => hm (Or.inl e)
    have e2 : x ≠ h := fun e => hm (Or.inr (Or.inl e))
    have e3 : x ≠ t := fun e => hm (Or.inr (Or.inr e))
    simp (disch := assumption) only [hup_at, hup_ne]
    exact hx
  · (simp (disch := assumption) only [hup_at, hup_ne]) <;> rfl
  · refine Or.inr ⟨ha, ha2, rfl, h, t, rfl, h0, t0, ?_, ?_⟩
    · rw [Int.toNat_natCast]
      (simp (disch := assumption) only [hup_at, hup_ne]) <;> rfl
    · rw [Int.toNat_natCast, ← zhmj_up]
      (simp (disch := assumption) only [hup_at, hup_ne]) <;> rfl
theorem kC_meets {S0 S : hH} {A : Nat → Nat} {p M : Int} {tr : Option Nat} (o0 : S (A 0) = some (kOb A p M tr)) (hp2 : 2 ≤ p) (hp7 : p ≤ 7) {pa : zP} {a : Nat → Int} {T fa L1 L2 P : Nat} {dg hv0 : Int} {hd0 : Option Nat} {j : Nat} (oT : S T = some (kTo fa dg L1 L2 P hd0 hv0 (A 0))) (iP : S P = some (kI 7 (zdgs pa j))) (hP0 : ∃ y, S0 P = some y) (hc : 0 < zcf M pa a j) (hc2 : zcf M pa a j < 536870912) {one : Nat} {ab bb : Option Nat} {root lv mf nu wo fi ix : Int} {ka pt sl : Nat} (oo : S one = some (kKo ab bb root lv mf nu ka (zpD pa (zpL pa)) wo pt sl fi ix)) (hD : zpD pa (zpL pa) ≤ 4) {B : Int × Int} (hB : kBest S0 S M p pa a hd0 hv0 B) (hs0 : ∀ q y, S0 q = some y → ∃ y', S q = some y') (hhs : 0 ≤ zhs pa j (zpL pa - 1)) (hhs2 : zhs pa j (zpL pa - 1) < 500000) (mc ms : Nat) (hmc : 2 ≤ mc) (hms : 9 ≤ ms) (Q : hH → Prop)
    (q : ∀ S1 hd' hv', kF (fun q => q = T ∨ S0 q = none) S S1 → S1 T = some (kTo fa dg L1 L2 P hd' hv' (A 0)) → kBest S0 S1 M p pa a hd' hv' (if B.1 < 0 ∨ zhv p pa (zcf M pa a j) j < B.1 then (zhv p pa (zcf M pa a j) j, (j : Int)) else B) → Q S1) : wX6_meets mc ms S T one (i64 (zcf M pa a j)) P (i64 (zhs pa j (zpL pa - 1))) Q := by
  have hle := zvl_le (p := p) 30 (zcf M pa a j)
  rw [show zvl p 30 (zcf M pa a j) = zval p (zcf M pa a j) from rfl] at hle
  have hall : zhv p pa (zcf M pa a j) j = zhs pa j (zpL pa - 1) + (zval p (zcf M pa a j) : Int) * (zpD pa (zpL pa) : Int) := by
    unfold zhv
    rw [Int.mul_comm, Int.add_comm]
  have hb : 0 ≤ (zval p (zcf M pa a j) : Int) * (zpD pa (zpL pa) : Int) ∧ (zval p (zcf M pa a j) : Int) * (zpD pa (zpL pa) : Int) ≤ 120 := by
    refine ⟨Int.mul_nonneg (by omega) (by omega), ?_⟩
    have := Int.mul_le_mul (a := (zval p (zcf M pa a j) : Int)) (b := (zpD pa (zpL pa) : Int)) (c := 30) (d := 4) (by omega) (by omega) (by omega) (by omega)
    omega
  have J : ∀ (q61 : Option Nat), q61 = hd0 → (B.1 < 0 ∨ zhv p pa (zcf M pa a j) j < B.1) → wX6_meets_j42 mc ms Q 0 0 S T (i64 (zcf M pa a j)) P (i32 (zval p (zcf M pa a j))) (i64 (zhv p pa (zcf M pa a j) j)) := by
    intro q61 hq61 hlt
    unfold wX6_meets_j42
    rcases hB with ⟨hB1, hd⟩ | ⟨hB1, hBb, hB2, h, t, hd, h0, t0, oh, it⟩
    · subst hd
      try simp (disch := first | assumption | omega) only [zl32, zl64, i32_add, i32_sub, i32_mul, i32_neg, i64_add, i64_sub, i64_mul, i64_neg, cv_gi, cv_gw, cv_ga, cv_gl, cv_pi, cv_pw, cv_pa, cv_pl, zf_S, zf_i, zf_l, mz1, mz2, mz3, mz4, kn_haI, kn_haJ, kn_haQ, kn_gaI, kn_gaJ, kn_gaQ, kn_hoA, kn_hlen, kn_hfI, kn_hfJ, kn_hfR, kn_hfN, kn_hoI, kn_hoJ, kn_hoR, kn_hoN, kn_hoC, kn_hoP, kn_paI, kn_paJ, kn_paQ, kn_hpF, kuI_ha, kuI_ga, kuI_pa, kuI_hA, kuI_ln, kuB_ha, kuB_ga, kuB_pa, kuB_hA, kuB_ln, kuJ_ha, kuJ_ga, kuJ_pa, kuJ_hA, kuJ_ln, kuQ_ha, kuQ_ga, kuQ_pa, kuQ_hA, kuQ_ln, kuO_fI, kuO_fJ, kuO_fR, kuO_fN, kuO_oI, kuO_oJ, kuO_oR, kuO_oN, kuO_oC, kuO_oP, kuO_pF, kvI_s, kvJ_s, kvR_s, kvN_s, kvN_0, kvN_v, kpI_s, kpJ_s, kpR_s, kpN_s, kpN_0, kpN_v, List.getElem?_cons_zero, List.getElem?_cons_succ, List.set_cons_zero, List.set_cons_succ, List.length_cons, List.length_nil, forall_eq, exists_eq_left', Option.some.injEq, true_and, and_true, reduceIte, Nat.reduceEqDiff, Nat.reduceAdd, Nat.reduceLT, hup_hup, hup_at, eq_self, if_true, if_false, implies_true, true_implies, false_implies, not_true_eq_false, not_false_eq_true, or_true, true_or, i32_10, i32_01, kI_new, kB_new, kJ_new, kI_new2, kB_new2, kJ_new2, kQ_new, kO_new, zkd, zijd, zip1, zip, zim1, i32_natN, ziL, zi_0, zi_1, kO_fI oT, kO_fJ oT, kO_fR oT, kO_fN oT, kO_oI oT, kO_oJ oT, kO_oR oT, kO_oN oT, kO_oC oT, kO_oP oT, kO_pF oT]
      refine ⟨⟨by omega, by omega, ?_⟩, fun a e => (by cases e)⟩
      intro h hh
      have nTh : T ≠ h := kne oT hh
      have nPh : P ≠ h := kne iP hh
      have n0h : A 0 ≠ h := kne o0 hh
      refine ⟨1, 7, by omega, by omega, ?_⟩
      refine kC_moInit (fs := []) (hup_at _ _ _) 1 7 (by omega) (by omega) _ (fun t ht => ?_)
      have nht : h ≠ t := fun e => by rw [← e, hup_at] at ht; cases ht
      have nth : t ≠ h := fun e => nht e.symm
      have htS : S t = none := by rw [hup_ne nth] at ht; exact ht
      have nTt : T ≠ t := kne oT htS
      have nPt : P ≠ t := kne iP htS
      have n0t : A 0 ≠ t := kne o0 htS
      have hn0 : ∀ x, S x = none → S0 x = none := by
        intro x hx
        rcases hz : S0 x with _ | y
        · rfl
        · obtain ⟨y', hy'⟩ := hs0 x y hz
          rw [hx] at hy'
          cases hy'
      generalize hS2 : hup (hup (hup S h (kO 10 [.null, .int (i32 0)])) t (kI 7 (fun _ => 0))) h (kMo t 1) = S2
      have x0 : S2 (A 0) = some (kOb A p M tr) := by rw [← hS2]; (simp (disch := assumption) only [hup_at, hup_ne]); exact o0
      have xT : S2 T = some (kTo fa dg L1 L2 P none hv0 (A 0)) := by rw [← hS2]; (simp (disch := assumption) only [hup_at, hup_ne]); exact oT
      have xP : S2 P = some (kI 7 (zdgs pa j)) := by rw [← hS2]; (simp (disch := assumption) only [hup_at, hup_ne]); exact iP
      have xh : S2 h = some (kMo t 1) := by rw [← hS2, hup_at]
      have xt : S2 t = some (kI 7 (fun _ => 0)) := by rw [← hS2]; (simp (disch := assumption) only [hup_at, hup_ne])
      refine kC_meets64 (S0 := S0) x0 hp2 hp7 xT xP hc hc2 xh xt (fun e => nPt e.symm) (hn0 h hh) (hn0 t htS) _ (by omega) (by omega) _ _ _ _ _ (fun S1 hF e1 e2 => ?_)
      refine q S1 (some h) _ ?_ e1 ?_
      · intro x y hx hm
        have e1 : x ≠ h := kne hx hh
        have e2 : x ≠ t := kne hx htS
        refine hF x y ?_ ?_
        · rw [← hS2]
          simp (disch := assumption) only [hup_at, hup_ne]
          exact hx
        · rintro (e | e | e)
          · exact hm (Or.inl e)
          · contradiction
          · contradiction
      · rw [if_pos hlt]
        exact e2
    · subst hd
      try simp (disch := first | assumption | omega) only [zl32, zl64, i32_add, i32_sub, i32_mul, i32_neg, i64_add, i64_sub, i64_mul, i64_neg, cv_gi, cv_gw, cv_ga, cv_gl, cv_pi, cv_pw, cv_pa, cv_pl, zf_S, zf_i, zf_l, mz1, mz2, mz3, mz4, kn_haI, kn_haJ, kn_haQ, kn_gaI, kn_gaJ, kn_gaQ, kn_hoA, kn_hlen, kn_hfI, kn_hfJ, kn_hfR, kn_hfN, kn_hoI, kn_hoJ, kn_hoR, kn_hoN, kn_hoC, kn_hoP, kn_paI, kn_paJ, kn_paQ, kn_hpF, kuI_ha, kuI_ga, kuI_pa, kuI_hA, kuI_ln, kuB_ha, kuB_ga, kuB_pa, kuB_hA, kuB_ln, kuJ_ha, kuJ_ga, kuJ_pa, kuJ_hA, kuJ_ln, kuQ_ha, kuQ_ga, kuQ_pa, kuQ_hA, kuQ_ln, kuO_fI, kuO_fJ, kuO_fR, kuO_fN, kuO_oI, kuO_oJ, kuO_oR, kuO_oN, kuO_oC, kuO_oP, kuO_pF, kvI_s, kvJ_s, kvR_s, kvN_s, kvN_0, kvN_v, kpI_s, kpJ_s, kpR_s, kpN_s, kpN_0, kpN_v, List.getElem?_cons_zero, List.getElem?_cons_succ, List.set_cons_zero, List.set_cons_succ, List.length_cons, List.length_nil, forall_eq, exists_eq_left', Option.some.injEq, true_and, and_true, reduceIte, Nat.reduceEqDiff, Nat.reduceAdd, Nat.reduceLT, hup_hup, hup_at, eq_self, if_true, if_false, implies_true, true_implies, false_implies, not_true_eq_false, not_false_eq_true, or_true, true_or, i32_10, i32_01, kI_new, kB_new, kJ_new, kI_new2, kB_new2, kJ_new2, kQ_new, kO_new, zkd, zijd, zip1, zip, zim1, i32_natN, ziL, zi_0, zi_1, kO_fI oT, kO_fJ oT, kO_fR oT, kO_fN oT, kO_oI oT, kO_oJ oT, kO_oR oT, kO_oN oT, kO_oC oT, kO_oP oT, kO_pF oT]
      refine ⟨fun e => (by cases e), fun a _ => ?_⟩
      refine kC_meets64 (S0 := S0) o0 hp2 hp7 oT iP hc hc2 oh it ?_ h0 t0 _ (by omega) (by omega) _ _ _ _ _ (fun S1 hF e1 e2 => ?_)
      · intro e
        obtain ⟨y, hy⟩ := hP0
        rw [e, hy] at t0
        cases t0
      · refine q S1 (some h) _ ?_ e1 ?_
        · intro x y hx hm
          refine hF x y hx ?_
          rintro (e | e | e)
          · exact hm (Or.inl e)
          · exact hm (Or.inr (by rw [e]; exact h0))
          · exact hm (Or.inr (by rw [e]; exact t0))
        · rw [if_pos hlt]
          exact e2
  unfold wX6_meets
  try simp (disch := first | assumption | omega) only [zl32, zl64, i32_add, i32_sub, i32_mul, i32_neg, i64_add, i64_sub, i64_mul, i64_neg, cv_gi, cv_gw, cv_ga, cv_gl, cv_pi, cv_pw, cv_pa, cv_pl, zf_S, zf_i, zf_l, mz1, mz2, mz3, mz4, kn_haI, kn_haJ, kn_haQ, kn_gaI, kn_gaJ, kn_gaQ, kn_hoA, kn_hlen, kn_hfI, kn_hfJ, kn_hfR, kn_hfN, kn_hoI, kn_hoJ, kn_hoR, kn_hoN, kn_hoC, kn_hoP, kn_paI, kn_paJ, kn_paQ, kn_hpF, kuI_ha, kuI_ga, kuI_pa, kuI_hA, kuI_ln, kuB_ha, kuB_ga, kuB_pa, kuB_hA, kuB_ln, kuJ_ha, kuJ_ga, kuJ_pa, kuJ_hA, kuJ_ln, kuQ_ha, kuQ_ga, kuQ_pa, kuQ_hA, kuQ_ln, kuO_fI, kuO_fJ, kuO_fR, kuO_fN, kuO_oI, kuO_oJ, kuO_oR, kuO_oN, kuO_oC, kuO_oP, kuO_pF, kvI_s, kvJ_s, kvR_s, kvN_s, kvN_0, kvN_v, kpI_s, kpJ_s, kpR_s, kpN_s, kpN_0, kpN_v, List.getElem?_cons_zero, List.getElem?_cons_succ, List.set_cons_zero, List.set_cons_succ, List.length_cons, List.length_nil, forall_eq, exists_eq_left', Option.some.injEq, true_and, and_true, reduceIte, Nat.reduceEqDiff, Nat.reduceAdd, Nat.reduceLT, hup_hup, hup_at, eq_self, if_true, if_false, implies_true, true_implies, false_implies, not_true_eq_false, not_false_eq_true, or_true, true_or, i32_10, i32_01, kI_new, kB_new, kJ_new, kI_new2, kB_new2, kJ_new2, kQ_new, kO_new, zkd, zijd, zip1, zip, zim1, i32_natN, ziL, zi_0, zi_1, kO_fI oT, kO_fJ oT, kO_fR oT, kO_fN oT, kO_oI oT, kO_oJ oT, kO_oR oT, kO_oN oT, kO_oC oT, kO_oP oT, kO_pF oT, kO_fI o0, kO_fJ o0, kO_fR o0, kO_fN o0, kO_oI o0, kO_oJ o0, kO_oR o0, kO_oN o0, kO_oC o0, kO_oP o0, kO_pF o0]
  refine kC_valueOf o0 hp2 hp7 _ hc hc2 _ ?_
  try simp (disch := first | assumption | omega) only [zl32, zl64, i32_add, i32_sub, i32_mul, i32_neg, i64_add, i64_sub, i64_mul, i64_neg, cv_gi, cv_gw, cv_ga, cv_gl, cv_pi, cv_pw, cv_pa, cv_pl, zf_S, zf_i, zf_l, mz1, mz2, mz3, mz4, kn_haI, kn_haJ, kn_haQ, kn_gaI, kn_gaJ, kn_gaQ, kn_hoA, kn_hlen, kn_hfI, kn_hfJ, kn_hfR, kn_hfN, kn_hoI, kn_hoJ, kn_hoR, kn_hoN, kn_hoC, kn_hoP, kn_paI, kn_paJ, kn_paQ, kn_hpF, kuI_ha, kuI_ga, kuI_pa, kuI_hA, kuI_ln, kuB_ha, kuB_ga, kuB_pa, kuB_hA, kuB_ln, kuJ_ha, kuJ_ga, kuJ_pa, kuJ_hA, kuJ_ln, kuQ_ha, kuQ_ga, kuQ_pa, kuQ_hA, kuQ_ln, kuO_fI, kuO_fJ, kuO_fR, kuO_fN, kuO_oI, kuO_oJ, kuO_oR, kuO_oN, kuO_oC, kuO_oP, kuO_pF, kvI_s, kvJ_s, kvR_s, kvN_s, kvN_0, kvN_v, kpI_s, kpJ_s, kpR_s, kpN_s, kpN_0, kpN_v, List.getElem?_cons_zero, List.getElem?_cons_succ, List.set_cons_zero, List.set_cons_succ, List.length_cons, List.length_nil, forall_eq, exists_eq_left', Option.some.injEq, true_and, and_true, reduceIte, Nat.reduceEqDiff, Nat.reduceAdd, Nat.reduceLT, hup_hup, hup_at, eq_self, if_true, if_false, implies_true, true_implies, false_implies, not_true_eq_false, not_false_eq_true, or_true, true_or, i32_10, i32_01, kI_new, kB_new, kJ_new, kI_new2, kB_new2, kJ_new2, kQ_new, kO_new, zkd, zijd, zip1, zip, zim1, i32_natN, ziL, zi_0, zi_1, kO_fI oT, kO_fJ oT, kO_fR oT, kO_fN oT, kO_oI oT, kO_oJ oT, kO_oR oT, kO_oN oT, kO_oC oT, kO_oP oT, kO_pF oT, kO_fI oo, kO_fJ oo, kO_fR oo, kO_fN oo, kO_oI oo, kO_oJ oo, kO_oR oo, kO_oN oo, kO_oC oo, kO_oP oo, kO_pF oo]
  rw [i32_64 (by omega) (by omega), i32_64 (by omega) (by omega)]
  try simp only [zl32, zl64, i32_add, i32_sub, i32_mul, i32_neg, i64_add, i64_sub, i64_mul, i64_neg, cv_gi, cv_gw, cv_ga, cv_gl, cv_pi, cv_pw, cv_pa, cv_pl, zf_S, zf_i, zf_l, mz1, mz2, mz3, mz4]
  rw [← hall]
  refine ⟨fun e => ?_, fun h e => ?_⟩
  · refine J _ rfl ?_
    rcases hB with ⟨hB1, hd⟩ | ⟨hB1, hBb, hB2, h, t, hd, h0, t0, oh, it⟩
    · exact Or.inl hB1
    · rw [hd] at e
      cases e
  · rcases hB with ⟨hB1, hd⟩ | ⟨hB1, hBb, hB2, h', t, hd, h0, t0, oh, it⟩
    · rw [hd] at e
      cases e
    · try simp (disch := first | assumption | omega) only [zl32, zl64, i32_add, i32_sub, i32_mul, i32_neg, i64_add, i64_sub, i64_mul, i64_neg, cv_gi, cv_gw, cv_ga, cv_gl, cv_pi, cv_pw, cv_pa, cv_pl, zf_S, zf_i, zf_l, mz1, mz2, mz3, mz4, kn_haI, kn_haJ, kn_haQ, kn_gaI, kn_gaJ, kn_gaQ, kn_hoA, kn_hlen, kn_hfI, kn_hfJ, kn_hfR, kn_hfN, kn_hoI, kn_hoJ, kn_hoR, kn_hoN, kn_hoC, kn_hoP, kn_paI, kn_paJ, kn_paQ, kn_hpF, kuI_ha, kuI_ga, kuI_pa, kuI_hA, kuI_ln, kuB_ha, kuB_ga, kuB_pa, kuB_hA, kuB_ln, kuJ_ha, kuJ_ga, kuJ_pa, kuJ_hA, kuJ_ln, kuQ_ha, kuQ_ga, kuQ_pa, kuQ_hA, kuQ_ln, kuO_fI, kuO_fJ, kuO_fR, kuO_fN, kuO_oI, kuO_oJ, kuO_oR, kuO_oN, kuO_oC, kuO_oP, kuO_pF, kvI_s, kvJ_s, kvR_s, kvN_s, kvN_0, kvN_v, kpI_s, kpJ_s, kpR_s, kpN_s, kpN_0, kpN_v, List.getElem?_cons_zero, List.getElem?_cons_succ, List.set_cons_zero, List.set_cons_succ, List.length_cons, List.length_nil, forall_eq, exists_eq_left', Option.some.injEq, true_and, and_true, reduceIte, Nat.reduceEqDiff, Nat.reduceAdd, Nat.reduceLT, hup_hup, hup_at, eq_self, if_true, if_false, implies_true, true_implies, false_implies, not_true_eq_false, not_false_eq_true, or_true, true_or, i32_10, i32_01, kI_new, kB_new, kJ_new, kI_new2, kB_new2, kJ_new2, kQ_new, kO_new, zkd, zijd, zip1, zip, zim1, i32_natN, ziL, zi_0, zi_1, kO_fI oT, kO_fJ oT, kO_fR oT, kO_fN oT, kO_oI oT, kO_oJ oT, kO_oR oT, kO_oN oT, kO_oC oT, kO_oP oT, kO_pF oT]
      rw [hB2]
      repeat' (first | (exfalso; omega) | (with_reducible refine zb_in ?_ ?_ ?_ ?_; omega; omega; omega) | (with_reducible refine zb_le ?_ ?_ ?_ ?_ (fun _ => ?_) (fun _ => ?_); omega; omega; omega; omega) | (with_reducible refine zb_lt ?_ ?_ ?_ ?_ (fun _ => ?_) (fun _ => ?_); omega; omega; omega; omega) | (with_reducible refine zb_eq ?_ ?_ ?_ ?_ (fun _ => ?_) (fun _ => ?_); omega; omega; omega; omega) | (with_reducible refine zb_leL ?_ ?_ ?_ ?_ (fun _ => ?_) (fun _ => ?_); omega; omega; omega; omega) | (with_reducible refine zb_ltL ?_ ?_ ?_ ?_ (fun _ => ?_) (fun _ => ?_); omega; omega; omega; omega) | (with_reducible refine zb_eqL ?_ ?_ ?_ ?_ (fun _ => ?_) (fun _ => ?_); omega; omega; omega; omega) | (with_reducible refine zb_nz ?_ ?_ ?_ ?_; omega; omega; omega) | (with_reducible refine zb_nzL ?_ ?_ ?_ ?_; omega; omega; omega) | with_reducible refine zb_ite ?_ | with_reducible refine zb_iteL ?_ | ((with_reducible intro y hy); subst hy; try simp only [zl32, zl64, i32_add, i32_sub, i32_mul, i32_neg, i64_add, i64_sub, i64_mul, i64_neg, cv_gi, cv_gw, cv_ga, cv_gl, cv_pi, cv_pw, cv_pa, cv_pl, zf_S, zf_i, zf_l, mz1, mz2, mz3, mz4, zr_ii, zr_iw, zr_ia, zr_il, zr_wi, zr_ww, zr_wa, zr_wl, zr_ai, zr_aw, zr_aa, zr_al, zr_li, zr_lw, zr_la, zr_ll, zw_ii, zw_ww, zw_aa, zw_ll, reduceIte, Nat.reduceEqDiff, if_true, if_false]) | with_reducible refine zb_o1 ?_ | with_reducible refine zb_o2 ?_ | with_reducible refine zb_o3 ?_ | with_reducible refine zb_o4 ?_ | with_reducible refine zb_tr ?_ | exact trivial | with_reducible refine zb_T ?_ | with_reducible refine zb_sp ?_ ?_)
      · exact J _ rfl (Or.inr (by assumption))
      · refine q S hd0 hv0 (kF.refl _) oT ?_
        rw [if_neg (by omega)]
        exact Or.inr ⟨hB1, hBb, hB2, h', t, hd, h0, t0, oh, it⟩
