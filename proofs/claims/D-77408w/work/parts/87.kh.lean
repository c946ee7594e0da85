/-! CLASS 8: residues: timesWith, last -/
set_option maxRecDepth 100000
theorem ze_ee (a p : Int) : a % p % p = a % p := Int.emod_emod_of_dvd a (Int.dvd_refl p)
theorem ze_scal (p l a b G : Int) : (l * a % p - l * b % p * G) % p = l * ((a - b * G) % p) % p := by
  have e1 : (l * a % p - l * b % p * G) % p = (l * a - l * b * G) % p := by
    rw [Int.sub_emod, ze_ee, Int.mul_emod (l * b % p) G, ze_ee, ← Int.mul_emod, ← Int.sub_emod]
  have e2 : l * ((a - b * G) % p) % p = l * (a - b * G) % p := by
    rw [Int.mul_emod, ze_ee, ← Int.mul_emod]
  rw [e1, e2, Int.mul_sub, Int.mul_assoc]
theorem zdvw_sc {p l : Int} {g : Nat → Int} {d L : Nat} : ∀ (n : Nat) (F R : Nat → Int), n ≤ L + 1 → (∀ q, q ≤ L → R q = l * F q % p) → ∀ q, q ≤ L → zdvw p g d 0 n R q = l * zdvw p g d 0 n F q % p := by
  intro n
  induction n with
  | zero => intro F R _ h q hq; exact h q hq
  | succ n ih =>
    intro F R hn h q hq
    unfold zdvw
    by_cases c : 0 + d ≤ n
    · rw [if_pos c, if_pos c]
      refine ih _ _ (by omega) (fun x hx => ?_) q hq
      unfold zdst
      by_cases c2 : n ≤ x + d ∧ x < n
      · rw [if_pos c2, if_pos c2, h x hx, h n (by omega)]
        exact ze_scal p l (F x) (F n) _
      · rw [if_neg c2, if_neg c2]
        exact h x hx
    · rw [if_neg c, if_neg c]
      exact h q hq
/-- the class's row is the model's, times a unit -/
def zRl (p l : Int) (L : Nat) (F R : Nat → Int) : Prop := (∀ q, q ≤ L → R q = l * F q % p) ∧ ∀ q, L < q → q < 9 → R q = 0
theorem zRl.red {p l : Int} (hp : 0 < p) {L : Nat} {F R : Nat → Int} (h : zRl p l L F R) : zred p 9 R := by
  intro q hq
  by_cases c : q ≤ L
  · rw [h.1 q c]
    exact ⟨Int.emod_nonneg _ (by omega), Int.emod_lt_of_pos _ hp⟩
  · rw [h.2 q (by omega) hq]
    omega
theorem zRl.deg {p l : Int} {L : Nat} (hL : L < 9) {F R : Nat → Int} (h : zRl p l L F R) (hl : 0 < l) (hl2 : l < p) (h1 : F L = 1) : degN R 9 = L := by
  have hlt := degN_lt R 9
  have e : R L = l := by
    rw [h.1 L (Nat.le_refl _), h1, Int.mul_one]
    exact Int.emod_eq_of_lt (by omega) hl2
  by_cases c : degN R 9 = (L : Int)
  · exact c
  · by_cases c2 : degN R 9 < (L : Int)
    · have := degN_hi R 9 L c2 hL
      omega
    · obtain ⟨m, hm⟩ : ∃ m : Nat, degN R 9 = m := ⟨(degN R 9).toNat, by omega⟩
      have := degN_at R 9 m hm
      exact absurd (h.2 m (by omega) (by omega)) this
theorem zRl.next {p l : Int} {L d : Nat} (hL : L < 9) (hd : d ≤ L) (hd1 : 1 ≤ d) {g F R : Nat → Int} (h : zRl p l L F R) : zRl p l (L - d) (znl p g d L F) (zquo d (zdvw p g d 0 (L + 1) R)) := by
  refine ⟨fun q hq => ?_, fun q h1 h2 => ?_⟩
  · unfold zquo znl
    rw [if_pos (by omega), if_pos (by omega), if_pos (by omega)]
    exact zdvw_sc (L + 1) F R (Nat.le_refl _) h.1 _ (by omega)
  · unfold zquo
    by_cases c : q + d < 9
    · rw [if_pos c, zdvw_hi _ _ (by omega)]
      exact h.2 _ (by omega) c
    · rw [if_neg c]
theorem znl_top {p : Int} {L d : Nat} (hd : d ≤ L) (hd1 : 1 ≤ d) {g F : Nat → Int} (h : F L = 1) : znl p g d L F (L - d) = 1 := by
  unfold znl
  rw [if_pos (by omega), if_pos (by omega), show L - d + d = L from by omega]
  unfold zdvw
  by_cases c : 0 + d ≤ L
  · rw [if_pos c, zdvw_hi _ _ (Nat.le_refl _)]
    unfold zdst
    rw [if_neg (by omega)]
    exact h
  · rw [if_neg c]
    exact h
theorem zpr_z {p l x : Int} (hp : zpr p) (hl : 0 < l) (hl2 : l < p) (h0 : 0 ≤ x) (h1 : x < p) : l * x % p = 0 ↔ x = 0 := by
  refine ⟨fun e => ?_, fun e => by rw [e, Int.mul_zero, Int.zero_emod]⟩
  rcases Int.lt_or_eq_of_le h0 with c | c
  · have := zpr_mul hp hl hl2 c h1
    omega
  · exact c.symm
/-- what the three scratch rows and the row that is divided take -/
def kTw (A : Nat → Nat) (fa q : Nat) : Prop := q = A 3 ∨ q = A 4 ∨ q = A 5 ∨ q = fa
theorem kC_timesWith {S : hH} {A : Nat → Nat} {p M : Int} {tr : Option Nat} (o0 : S (A 0) = some (kOb A p M tr)) {R : Nat → Int} {fa : Nat} (i3 : ∃ g, S (A 3) = some (kI 9 g)) (i4 : ∃ g, S (A 4) = some (kI 9 g)) (i5 : ∃ g, S (A 5) = some (kI 9 g)) (ia : S fa = some (kI 9 R)) (h34 : A 3 ≠ A 4) (h35 : A 3 ≠ A 5) (h45 : A 4 ≠ A 5) (hf3 : fa ≠ A 3) (hf4 : fa ≠ A 4) (hf5 : fa ≠ A 5) (hp : zpr p) (l : Int) (hl : 0 < l) (hl2 : l < p) (F : Nat → Int) (L : Nat) (hL : L < 9) (rF : zred p 9 F) (hF1 : F L = 1) (hR : zRl p l L F R) (code d : Nat) (hd1 : 1 ≤ d) (hd9 : d < 9) (hcode : code < 100000) (Q : Int32 → hH → Prop)
    (q : ∀ S' R', kF (kTw A fa) S S' → S' (A 3) = some (kI 9 (ztrial p code d)) → (∃ g, S' (A 4) = some (kI 9 g)) → (∃ g, S' (A 5) = some (kI 9 g)) → S' fa = some (kI 9 R') → zRl p l (zTk p (ztrial p code d) d 9 L F 0).1 (zTk p (ztrial p code d) d 9 L F 0).2.1 R' → (zTk p (ztrial p code d) d 9 L F 0).2.1 (zTk p (ztrial p code d) d 9 L F 0).1 = 1 → Q (i32 (zTk p (ztrial p code d) d 9 L F 0).2.2) S') : wX0_timesWith S (A 0) (i32 code) (i32 d) fa Q := by
  have hp7 : 2 ≤ p ∧ p ≤ 7 := by unfold zpr at hp; omega
  obtain ⟨g3, i3⟩ := i3
  have h03 : A 0 ≠ A 3 := kne2 o0 i3 (by intro e; cases e)
  have h04 : A 0 ≠ A 4 := by obtain ⟨g, i4⟩ := i4; exact kne2 o0 i4 (by intro e; cases e)
  have h05 : A 0 ≠ A 5 := by obtain ⟨g, i5⟩ := i5; exact kne2 o0 i5 (by intro e; cases e)
  have h0a : A 0 ≠ fa := kne2 o0 ia (by intro e; cases e)
  have rg := zred_ztrial (p := p) hp7.1 (code := code) (d := d)
  have hg1 : ztrial p code d d = 1 := by
    unfold ztrial
    rw [if_neg (by omega), if_pos rfl]
  have L76 : ∀ (n L : Nat) (F R : Nat → Int) (tm : Nat) (S1 : hH), L < n → tm + n ≤ 20 → L < 9 → zred p 9 F → F L = 1 → zRl p l L F R → kF (kTw A fa) S S1 → S1 (A 3) = some (kI 9 (ztrial p code d)) → (∃ g, S1 (A 4) = some (kI 9 g)) → (∃ g, S1 (A 5) = some (kI 9 g)) → S1 fa = some (kI 9 R) →
      (∀ S' R', kF (kTw A fa) S S' → S' (A 3) = some (kI 9 (ztrial p code d)) → (∃ g, S' (A 4) = some (kI 9 g)) → (∃ g, S' (A 5) = some (kI 9 g)) → S' fa = some (kI 9 R') → zRl p l (zTk p (ztrial p code d) d n L F tm).1 (zTk p (ztrial p code d) d n L F tm).2.1 R' → (zTk p (ztrial p code d) d n L F tm).2.1 (zTk p (ztrial p code d) d n L F tm).1 = 1 → Q (i32 (zTk p (ztrial p code d) d n L F tm).2.2) S') →
      wX0_timesWith_l76 Q (A 0) (i32 d) fa (n + 1) S1 (i32 tm) := by
    intro n
    induction n with
    | zero => intro L F R tm S1 h; omega
    | succ n ih =>
      intro L F R tm S1 hLn htm hL rF hF1 hR hF a3 a4 a5 aa hq
      have rR := hR.red (by omega)
      have dR := hR.deg hL hl hl2 hF1
      have o0' : S1 (A 0) = some (kOb A p M tr) := hF.at o0 (by rintro (h | h | h | h) <;> contradiction)
      rw [wX0_timesWith_l76]
      refine kC_degreeOf aa (fun x hx => by have := rR x hx; omega) _ ?_
      rw [dR]
      unfold zTk at hq
      try simp (disch := first | assumption | omega) only [zl32, zl64, i32_add, i32_sub, i32_mul, i32_neg, i64_add, i64_sub, i64_mul, i64_neg, cv_gi, cv_gw, cv_ga, cv_gl, cv_pi, cv_pw, cv_pa, cv_pl, zf_S, zf_i, zf_l, mz1, mz2, mz3, mz4, kn_haI, kn_haJ, kn_haQ, kn_gaI, kn_gaJ, kn_gaQ, kn_hoA, kn_hlen, kn_hfI, kn_hfJ, kn_hfR, kn_hfN, kn_hoI, kn_hoJ, kn_hoR, kn_hoN, kn_hoC, kn_hoP, kn_paI, kn_paJ, kn_paQ, kn_hpF, kuI_ha, kuI_ga, kuI_pa, kuI_hA, kuI_ln, kuB_ha, kuB_ga, kuB_pa, kuB_hA, kuB_ln, kuJ_ha, kuJ_ga, kuJ_pa, kuJ_hA, kuJ_ln, kuQ_ha, kuQ_ga, kuQ_pa, kuQ_hA, kuQ_ln, kuO_fI, kuO_fJ, kuO_fR, kuO_fN, kuO_oI, kuO_oJ, kuO_oR, kuO_oN, kuO_oC, kuO_oP, kuO_pF, kvI_s, kvJ_s, kvR_s, kvN_s, kvN_0, kvN_v, kpI_s, kpJ_s, kpR_s, kpN_s, kpN_0, kpN_v, List.getElem?_cons_zero, List.getElem?_cons_succ, List.set_cons_zero, List.set_cons_succ, List.length_cons, List.length_nil, forall_eq, exists_eq_left', Option.some.injEq, true_and, and_true, reduceIte, Nat.reduceEqDiff, Nat.reduceAdd, Nat.reduceLT, hup_hup, hup_at, eq_self, if_true, if_false, implies_true, true_implies, false_implies, not_true_eq_false, not_false_eq_true, or_true, true_or, i32_10, i32_01, kI_new, kB_new, kJ_new, kI_new2, kB_new2, kJ_new2, kQ_new, kO_new, zkd, zijd, zip1, zip, zim1, i32_natN, ziL, zi_0, zi_1, kO_fI o0', kO_fJ o0', kO_fR o0', kO_fN o0', kO_oI o0', kO_oJ o0', kO_oR o0', kO_oN o0', kO_oC o0', kO_oP o0', kO_pF o0']
      repeat' (first | (exfalso; omega) | (with_reducible refine zb_in ?_ ?_ ?_ ?_; omega; omega; omega) | (with_reducible refine zb_le ?_ ?_ ?_ ?_ (fun _ => ?_) (fun _ => ?_); omega; omega; omega; omega) | (with_reducible refine zb_lt ?_ ?_ ?_ ?_ (fun _ => ?_) (fun _ => ?_); omega; omega; omega; omega) | (with_reducible refine zb_eq ?_ ?_ ?_ ?_ (fun _ => ?_) (fun _ => ?_); omega; omega; omega; omega) | (with_reducible refine zb_leL ?_ ?_ ?_ ?_ (fun _ => ?_) (fun _ => ?_); omega; omega; omega; omega) | (with_reducible refine zb_ltL ?_ ?_ ?_ ?_ (fun _ => ?_) (fun _ => ?_); omega; omega; omega; omega) | (with_reducible refine zb_eqL ?_ ?_ ?_ ?_ (fun _ => ?_) (fun _ => ?_); omega; omega; omega; omega) | (with_reducible refine zb_nz ?_ ?_ ?_ ?_; omega; omega; omega) | (with_reducible refine zb_nzL ?_ ?_ ?_ ?_; omega; omega; omega) | with_reducible refine zb_ite ?_ | with_reducible refine zb_iteL ?_ | ((with_reducible intro y hy); subst hy; try simp only [zl32, zl64, i32_add, i32_sub, i32_mul, i32_neg, i64_add, i64_sub, i64_mul, i64_neg, cv_gi, cv_gw, cv_ga, cv_gl, cv_pi, cv_pw, cv_pa, cv_pl, zf_S, zf_i, zf_l, mz1, mz2, mz3, mz4, zr_ii, zr_iw, zr_ia, zr_il, zr_wi, zr_ww, zr_wa, zr_wl, zr_ai, zr_aw, zr_aa, zr_al, zr_li, zr_lw, zr_la, zr_ll, zw_ii, zw_ww, zw_aa, zw_ll, reduceIte, Nat.reduceEqDiff, if_true, if_false]) | with_reducible refine zb_o1 ?_ | with_reducible refine zb_o2 ?_ | with_reducible refine zb_o3 ?_ | with_reducible refine zb_o4 ?_ | with_reducible refine zb_tr ?_ | exact trivial | with_reducible refine zb_T ?_ | with_reducible refine zb_sp ?_ ?_)
      · rw [if_neg (by unfold zdiv; omega)] at hq
        exact hq S1 R hF a3 a4 a5 aa hR hF1
      · obtain ⟨g4, a4⟩ := a4
        obtain ⟨g5, a5⟩ := a5
        have hz : ∀ x, x < d → (zdvw p (ztrial p code d) d 0 (L + 1) R x = 0 ↔ zdvw p (ztrial p code d) d 0 (L + 1) F x = 0) := by
          intro x hx
          have r := zred_zdvw (by omega : 0 < p) (N := 9) (g := ztrial p code d) (d := d) (s := 0) (L + 1) F rF x (by omega)
          rw [zdvw_sc (L + 1) F R (Nat.le_refl _) hR.1 x (by omega)]
          exact zpr_z hp hl hl2 r.1 r.2
        refine kC_dr o0' a3 a4 a5 aa h34 h35 h45 hf3 hf4 hf5 hp7.1 hp7.2 d L hd1 (by omega) hL rR dR rg hg1 _ (fun e fl' => ?_) (fun e fg' fl' => ?_)
        · try simp only [zl32, zl64, i32_add, i32_sub, i32_mul, i32_neg, i64_add, i64_sub, i64_mul, i64_neg, cv_gi, cv_gw, cv_ga, cv_gl, cv_pi, cv_pw, cv_pa, cv_pl, zf_S, zf_i, zf_l, mz1, mz2, mz3, mz4]
          repeat' (first | (exfalso; omega) | (with_reducible refine zb_in ?_ ?_ ?_ ?_; omega; omega; omega) | (with_reducible refine zb_le ?_ ?_ ?_ ?_ (fun _ => ?_) (fun _ => ?_); omega; omega; omega; omega) | (with_reducible refine zb_lt ?_ ?_ ?_ ?_ (fun _ => ?_) (fun _ => ?_); omega; omega; omega; omega) | (with_reducible refine zb_eq ?_ ?_ ?_ ?_ (fun _ => ?_) (fun _ => ?_); omega; omega; omega; omega) | (with_reducible refine zb_leL ?_ ?_ ?_ ?_ (fun _ => ?_) (fun _ => ?_); omega; omega; omega; omega) | (with_reducible refine zb_ltL ?_ ?_ ?_ ?_ (fun _ => ?_) (fun _ => ?_); omega; omega; omega; omega) | (with_reducible refine zb_eqL ?_ ?_ ?_ ?_ (fun _ => ?_) (fun _ => ?_); omega; omega; omega; omega) | (with_reducible refine zb_nz ?_ ?_ ?_ ?_; omega; omega; omega) | (with_reducible refine zb_nzL ?_ ?_ ?_ ?_; omega; omega; omega) | with_reducible refine zb_ite ?_ | with_reducible refine zb_iteL ?_ | ((with_reducible intro y hy); subst hy; try simp only [zl32, zl64, i32_add, i32_sub, i32_mul, i32_neg, i64_add, i64_sub, i64_mul, i64_neg, cv_gi, cv_gw, cv_ga, cv_gl, cv_pi, cv_pw, cv_pa, cv_pl, zf_S, zf_i, zf_l, mz1, mz2, mz3, mz4, zr_ii, zr_iw, zr_ia, zr_il, zr_wi, zr_ww, zr_wa, zr_wl, zr_ai, zr_aw, zr_aa, zr_al, zr_li, zr_lw, zr_la, zr_ll, zw_ii, zw_ww, zw_aa, zw_ll, reduceIte, Nat.reduceEqDiff, if_true, if_false]) | with_reducible refine zb_o1 ?_ | with_reducible refine zb_o2 ?_ | with_reducible refine zb_o3 ?_ | with_reducible refine zb_o4 ?_ | with_reducible refine zb_tr ?_ | exact trivial | with_reducible refine zb_T ?_ | with_reducible refine zb_sp ?_ ?_)
          rw [if_pos (by unfold zdiv; exact ⟨by omega, fun x hx => (hz x hx).mp (e x hx)⟩)] at hq
          refine ih (L - d) _ _ (tm + 1) _ (by omega) (by omega) (by omega) (zred_znl (by omega) hL rF) (znl_top (by omega) hd1 hF1) (hR.next hL (by omega) hd1) ?_ ?_ ?_ ?_ ?_ hq
          · exact hF.trans' (((kF.up _ (Or.inr (Or.inr (Or.inl rfl)))).trans' (kF.up _ (Or.inr (Or.inl rfl)))).trans' (kF.up _ (Or.inr (Or.inr (Or.inr rfl)))))
          · rw [hup_ne (fun e => hf3 e.symm), hup_ne h34, hup_ne h35]
            exact a3
          · exact ⟨_, by rw [hup_ne (fun e => hf4 e.symm), hup_at]⟩
          · exact ⟨_, by rw [hup_ne (fun e => hf5 e.symm), hup_ne (fun e => h45 e.symm), hup_at]⟩
          · exact hup_at _ _ _
        · try simp only [zl32, zl64, i32_add, i32_sub, i32_mul, i32_neg, i64_add, i64_sub, i64_mul, i64_neg, cv_gi, cv_gw, cv_ga, cv_gl, cv_pi, cv_pw, cv_pa, cv_pl, zf_S, zf_i, zf_l, mz1, mz2, mz3, mz4]
          repeat' (first | (exfalso; omega) | (with_reducible refine zb_in ?_ ?_ ?_ ?_; omega; omega; omega) | (with_reducible refine zb_le ?_ ?_ ?_ ?_ (fun _ => ?_) (fun _ => ?_); omega; omega; omega; omega) | (with_reducible refine zb_lt ?_ ?_ ?_ ?_ (fun _ => ?_) (fun _ => ?_); omega; omega; omega; omega) | (with_reducible refine zb_eq ?_ ?_ ?_ ?_ (fun _ => ?_) (fun _ => ?_); omega; omega; omega; omega) | (with_reducible refine zb_leL ?_ ?_ ?_ ?_ (fun _ => ?_) (fun _ => ?_); omega; omega; omega; omega) | (with_reducible refine zb_ltL ?_ ?_ ?_ ?_ (fun _ => ?_) (fun _ => ?_); omega; omega; omega; omega) | (with_reducible refine zb_eqL ?_ ?_ ?_ ?_ (fun _ => ?_) (fun _ => ?_); omega; omega; omega; omega) | (with_reducible refine zb_nz ?_ ?_ ?_ ?_; omega; omega; omega) | (with_reducible refine zb_nzL ?_ ?_ ?_ ?_; omega; omega; omega) | with_reducible refine zb_ite ?_ | with_reducible refine zb_iteL ?_ | ((with_reducible intro y hy); subst hy; try simp only [zl32, zl64, i32_add, i32_sub, i32_mul, i32_neg, i64_add, i64_sub, i64_mul, i64_neg, cv_gi, cv_gw, cv_ga, cv_gl, cv_pi, cv_pw, cv_pa, cv_pl, zf_S, zf_i, zf_l, mz1, mz2, mz3, mz4, zr_ii, zr_iw, zr_ia, zr_il, zr_wi, zr_ww, zr_wa, zr_wl, zr_ai, zr_aw, zr_aa, zr_al, zr_li, zr_lw, zr_la, zr_ll, zw_ii, zw_ww, zw_aa, zw_ll, reduceIte, Nat.reduceEqDiff, if_true, if_false]) | with_reducible refine zb_o1 ?_ | with_reducible refine zb_o2 ?_ | with_reducible refine zb_o3 ?_ | with_reducible refine zb_o4 ?_ | with_reducible refine zb_tr ?_ | exact trivial | with_reducible refine zb_T ?_ | with_reducible refine zb_sp ?_ ?_)
          rw [if_neg (by unfold zdiv; intro c; exact e (fun x hx => (hz x hx).mpr (c.2 x hx)))] at hq
          refine hq _ R ?_ ?_ ?_ ?_ ?_ hR hF1
          · exact hF.trans' ((kF.up _ (Or.inr (Or.inr (Or.inl rfl)))).trans' (kF.up _ (Or.inr (Or.inl rfl))))
          · rw [hup_ne h34, hup_ne h35]
            exact a3
          · exact ⟨_, hup_at _ _ _⟩
          · exact ⟨_, by rw [hup_ne (fun e => h45 e.symm), hup_at]⟩
          · rw [hup_ne hf4, hup_ne hf5]
            exact aa
  have L6 : ∀ n k : Nat, k + n = 9 → ∀ g : Nat → Int, (∀ x, x < k → g x = ztrial p code d x) → wX0_timesWith_l6 Q (A 0) (i32 d) fa (n + 1) (hup S (A 3) (kI 9 g)) (i32 ((code : Int) / p ^ (min k d))) (i32 k) := by
    intro n
    induction n with
    | zero =>
      intro k hk g hg
      have : k = 9 := by omega
      subst this
      rw [wX0_timesWith_l6]
      try simp only [zl32, zl64, i32_add, i32_sub, i32_mul, i32_neg, i64_add, i64_sub, i64_mul, i64_neg, cv_gi, cv_gw, cv_ga, cv_gl, cv_pi, cv_pw, cv_pa, cv_pl, zf_S, zf_i, zf_l, mz1, mz2, mz3, mz4]
      repeat' (first | (exfalso; omega) | (with_reducible refine zb_in ?_ ?_ ?_ ?_; omega; omega; omega) | (with_reducible refine zb_le ?_ ?_ ?_ ?_ (fun _ => ?_) (fun _ => ?_); omega; omega; omega; omega) | (with_reducible refine zb_lt ?_ ?_ ?_ ?_ (fun _ => ?_) (fun _ => ?_); omega; omega; omega; omega) | (with_reducible refine zb_eq ?_ ?_ ?_ ?_ (fun _ => ?_) (fun _ => ?_); omega; omega; omega; omega) | (with_reducible refine zb_leL ?_ ?_ ?_ ?_ (fun _ => ?_) (fun _ => ?_); omega; omega; omega; omega) | (with_reducible refine zb_ltL ?_ ?_ ?_ ?_ (fun _ => ?_) (fun _ => ?_); omega; omega; omega; omega) | (with_reducible refine zb_eqL ?_ ?_ ?_ ?_ (fun _ => ?_) (fun _ => ?_); omega; omega; omega; omega) | (with_reducible refine zb_nz ?_ ?_ ?_ ?_; omega; omega; omega) | (with_reducible refine zb_nzL ?_ ?_ ?_ ?_; omega; omega; omega) | with_reducible refine zb_ite ?_ | with_reducible refine zb_iteL ?_ | ((with_reducible intro y hy); subst hy; try simp only [zl32, zl64, i32_add, i32_sub, i32_mul, i32_neg, i64_add, i64_sub, i64_mul, i64_neg, cv_gi, cv_gw, cv_ga, cv_gl, cv_pi, cv_pw, cv_pa, cv_pl, zf_S, zf_i, zf_l, mz1, mz2, mz3, mz4, zr_ii, zr_iw, zr_ia, zr_il, zr_wi, zr_ww, zr_wa, zr_wl, zr_ai, zr_aw, zr_aa, zr_al, zr_li, zr_lw, zr_la, zr_ll, zw_ii, zw_ww, zw_aa, zw_ll, reduceIte, Nat.reduceEqDiff, if_true, if_false]) | with_reducible refine zb_o1 ?_ | with_reducible refine zb_o2 ?_ | with_reducible refine zb_o3 ?_ | with_reducible refine zb_o4 ?_ | with_reducible refine zb_tr ?_ | exact trivial | with_reducible refine zb_T ?_ | with_reducible refine zb_sp ?_ ?_)
      refine ⟨10, ?_⟩
      rw [kI_ext hg]
      obtain ⟨g4, i4⟩ := i4
      obtain ⟨g5, i5⟩ := i5
      exact L76 9 L F R 0 _ hL (by omega) hL rF hF1 hR (kF.up _ (Or.inl rfl)) (hup_at _ _ _) ⟨g4, by rw [hup_ne (fun e => h34 e.symm)]; exact i4⟩ ⟨g5, by rw [hup_ne (fun e => h35 e.symm)]; exact i5⟩ (by rw [hup_ne hf3]; exact ia) q
    | succ n ih =>
      intro k hk g hg
      have hpk : 0 < p ^ (min k d) := Int.pow_pos (by omega)
      have hx0 := Int.ediv_nonneg (a := (code : Int)) (b := p ^ (min k d)) (by omega) (by omega)
      have hx1 := Int.ediv_le_self (a := (code : Int)) (p ^ (min k d)) (by omega)
      rw [wX0_timesWith_l6]
      by_cases hdk : d ≤ k
      · have c1 : i32 (d : Int) ≤ i32 (k : Int) := (i32_le (by omega) (by omega) (by omega) (by omega)).mpr (by omega)
        have em : min (k + 1) d = min k d := by omega
        have e := ih (k + 1) (by omega)
        rw [em] at e
        by_cases hk2 : k = d
        · subst hk2
          try simp (disch := first | assumption | omega) only [zl32, zl64, i32_add, i32_sub, i32_mul, i32_neg, i64_add, i64_sub, i64_mul, i64_neg, cv_gi, cv_gw, cv_ga, cv_gl, cv_pi, cv_pw, cv_pa, cv_pl, zf_S, zf_i, zf_l, mz1, mz2, mz3, mz4, kn_haI, kn_haJ, kn_haQ, kn_gaI, kn_gaJ, kn_gaQ, kn_hoA, kn_hlen, kn_hfI, kn_hfJ, kn_hfR, kn_hfN, kn_hoI, kn_hoJ, kn_hoR, kn_hoN, kn_hoC, kn_hoP, kn_paI, kn_paJ, kn_paQ, kn_hpF, kuI_ha, kuI_ga, kuI_pa, kuI_hA, kuI_ln, kuB_ha, kuB_ga, kuB_pa, kuB_hA, kuB_ln, kuJ_ha, kuJ_ga, kuJ_pa, kuJ_hA, kuJ_ln, kuQ_ha, kuQ_ga, kuQ_pa, kuQ_hA, kuQ_ln, kuO_fI, kuO_fJ, kuO_fR, kuO_fN, kuO_oI, kuO_oJ, kuO_oR, kuO_oN, kuO_oC, kuO_oP, kuO_pF, kvI_s, kvJ_s, kvR_s, kvN_s, kvN_0, kvN_v, kpI_s, kpJ_s, kpR_s, kpN_s, kpN_0, kpN_v, List.getElem?_cons_zero, List.getElem?_cons_succ, List.set_cons_zero, List.set_cons_succ, List.length_cons, List.length_nil, forall_eq, exists_eq_left', Option.some.injEq, true_and, and_true, reduceIte, Nat.reduceEqDiff, Nat.reduceAdd, Nat.reduceLT, hup_hup, hup_at, eq_self, if_true, if_false, implies_true, true_implies, false_implies, not_true_eq_false, not_false_eq_true, or_true, true_or, i32_10, i32_01, kI_new, kB_new, kJ_new, kI_new2, kB_new2, kJ_new2, kQ_new, kO_new, zkd, zijd, zip1, zip, zim1, i32_natN, ziL, zi_0, zi_1, kO_fI o0, kO_fJ o0, kO_fR o0, kO_fN o0, kO_oI o0, kO_oJ o0, kO_oR o0, kO_oN o0, kO_oC o0, kO_oP o0, kO_pF o0, c1]
          repeat' (first | (exfalso; omega) | (with_reducible refine zb_in ?_ ?_ ?_ ?_; omega; omega; omega) | (with_reducible refine zb_le ?_ ?_ ?_ ?_ (fun _ => ?_) (fun _ => ?_); omega; omega; omega; omega) | (with_reducible refine zb_lt ?_ ?_ ?_ ?_ (fun _ => ?_) (fun _ => ?_); omega; omega; omega; omega) | (with_reducible refine zb_eq ?_ ?_ ?_ ?_ (fun _ => ?_) (fun _ => ?_); omega; omega; omega; omega) | (with_reducible refine zb_leL ?_ ?_ ?_ ?_ (fun _ => ?_) (fun _ => ?_); omega; omega; omega; omega) | (with_reducible refine zb_ltL ?_ ?_ ?_ ?_ (fun _ => ?_) (fun _ => ?_); omega; omega; omega; omega) | (with_reducible refine zb_eqL ?_ ?_ ?_ ?_ (fun _ => ?_) (fun _ => ?_); omega; omega; omega; omega) | (with_reducible refine zb_nz ?_ ?_ ?_ ?_; omega; omega; omega) | (with_reducible refine zb_nzL ?_ ?_ ?_ ?_; omega; omega; omega) | with_reducible refine zb_ite ?_ | with_reducible refine zb_iteL ?_ | ((with_reducible intro y hy); subst hy; try simp only [zl32, zl64, i32_add, i32_sub, i32_mul, i32_neg, i64_add, i64_sub, i64_mul, i64_neg, cv_gi, cv_gw, cv_ga, cv_gl, cv_pi, cv_pw, cv_pa, cv_pl, zf_S, zf_i, zf_l, mz1, mz2, mz3, mz4, zr_ii, zr_iw, zr_ia, zr_il, zr_wi, zr_ww, zr_wa, zr_wl, zr_ai, zr_aw, zr_aa, zr_al, zr_li, zr_lw, zr_la, zr_ll, zw_ii, zw_ww, zw_aa, zw_ll, reduceIte, Nat.reduceEqDiff, if_true, if_false]) | with_reducible refine zb_o1 ?_ | with_reducible refine zb_o2 ?_ | with_reducible refine zb_o3 ?_ | with_reducible refine zb_o4 ?_ | with_reducible refine zb_tr ?_ | exact trivial | with_reducible refine zb_T ?_ | with_reducible refine zb_sp ?_ ?_)
          refine e _ (fun x hx => ?_)
          by_cases c : x = k
          · subst c
            rw [zup_at, hg1]
          · rw [zup_ne _ _ c]
            exact hg x (by omega)
        · have c2 : ¬ i32 (k : Int) = i32 (d : Int) := fun e => hk2 (by rw [i32_eq (by omega) (by omega) (by omega) (by omega)] at e; omega)
          try simp (disch := first | assumption | omega) only [zl32, zl64, i32_add, i32_sub, i32_mul, i32_neg, i64_add, i64_sub, i64_mul, i64_neg, cv_gi, cv_gw, cv_ga, cv_gl, cv_pi, cv_pw, cv_pa, cv_pl, zf_S, zf_i, zf_l, mz1, mz2, mz3, mz4, kn_haI, kn_haJ, kn_haQ, kn_gaI, kn_gaJ, kn_gaQ, kn_hoA, kn_hlen, kn_hfI, kn_hfJ, kn_hfR, kn_hfN, kn_hoI, kn_hoJ, kn_hoR, kn_hoN, kn_hoC, kn_hoP, kn_paI, kn_paJ, kn_paQ, kn_hpF, kuI_ha, kuI_ga, kuI_pa, kuI_hA, kuI_ln, kuB_ha, kuB_ga, kuB_pa, kuB_hA, kuB_ln, kuJ_ha, kuJ_ga, kuJ_pa, kuJ_hA, kuJ_ln, kuQ_ha, kuQ_ga, kuQ_pa, kuQ_hA, kuQ_ln, kuO_fI, kuO_fJ, kuO_fR, kuO_fN, kuO_oI, kuO_oJ, kuO_oR, kuO_oN, kuO_oC, kuO_oP, kuO_pF, kvI_s, kvJ_s, kvR_s, kvN_s, kvN_0, kvN_v, kpI_s, kpJ_s, kpR_s, kpN_s, kpN_0, kpN_v, List.getElem?_cons_zero, List.getElem?_cons_succ, List.set_cons_zero, List.set_cons_succ, List.length_cons, List.length_nil, forall_eq, exists_eq_left', Option.some.injEq, true_and, and_true, reduceIte, Nat.reduceEqDiff, Nat.reduceAdd, Nat.reduceLT, hup_hup, hup_at, eq_self, if_true, if_false, implies_true, true_implies, false_implies, not_true_eq_false, not_false_eq_true, or_true, true_or, i32_10, i32_01, kI_new, kB_new, kJ_new, kI_new2, kB_new2, kJ_new2, kQ_new, kO_new, zkd, zijd, zip1, zip, zim1, i32_natN, ziL, zi_0, zi_1, kO_fI o0, kO_fJ o0, kO_fR o0, kO_fN o0, kO_oI o0, kO_oJ o0, kO_oR o0, kO_oN o0, kO_oC o0, kO_oP o0, kO_pF o0, c1, c2]
          repeat' (first | (exfalso; omega) | (with_reducible refine zb_in ?_ ?_ ?_ ?_; omega; omega; omega) | (with_reducible refine zb_le ?_ ?_ ?_ ?_ (fun _ => ?_) (fun _ => ?_); omega; omega; omega; omega) | (with_reducible refine zb_lt ?_ ?_ ?_ ?_ (fun _ => ?_) (fun _ => ?_); omega; omega; omega; omega) | (with_reducible refine zb_eq ?_ ?_ ?_ ?_ (fun _ => ?_) (fun _ => ?_); omega; omega; omega; omega) | (with_reducible refine zb_leL ?_ ?_ ?_ ?_ (fun _ => ?_) (fun _ => ?_); omega; omega; omega; omega) | (with_reducible refine zb_ltL ?_ ?_ ?_ ?_ (fun _ => ?_) (fun _ => ?_); omega; omega; omega; omega) | (with_reducible refine zb_eqL ?_ ?_ ?_ ?_ (fun _ => ?_) (fun _ => ?_); omega; omega; omega; omega) | (with_reducible refine zb_nz ?_ ?_ ?_ ?_; omega; omega; omega) | (with_reducible refine zb_nzL ?_ ?_ ?_ ?_; omega; omega; omega) | with_reducible refine zb_ite ?_ | with_reducible refine zb_iteL ?_ | ((with_reducible intro y hy); subst hy; try simp only [zl32, zl64, i32_add, i32_sub, i32_mul, i32_neg, i64_add, i64_sub, i64_mul, i64_neg, cv_gi, cv_gw, cv_ga, cv_gl, cv_pi, cv_pw, cv_pa, cv_pl, zf_S, zf_i, zf_l, mz1, mz2, mz3, mz4, zr_ii, zr_iw, zr_ia, zr_il, zr_wi, zr_ww, zr_wa, zr_wl, zr_ai, zr_aw, zr_aa, zr_al, zr_li, zr_lw, zr_la, zr_ll, zw_ii, zw_ww, zw_aa, zw_ll, reduceIte, Nat.reduceEqDiff, if_true, if_false]) | with_reducible refine zb_o1 ?_ | with_reducible refine zb_o2 ?_ | with_reducible refine zb_o3 ?_ | with_reducible refine zb_o4 ?_ | with_reducible refine zb_tr ?_ | exact trivial | with_reducible refine zb_T ?_ | with_reducible refine zb_sp ?_ ?_)
          refine e _ (fun x hx => ?_)
          by_cases c : x = k
          · subst c
            rw [zup_at]
            unfold ztrial
            rw [if_neg (by omega), if_neg hk2]
          · rw [zup_ne _ _ c]
            exact hg x (by omega)
      · have c1 : ¬ i32 (d : Int) ≤ i32 (k : Int) := fun e => hdk (by rw [i32_le (by omega) (by omega) (by omega) (by omega)] at e; omega)
        have em : min (k + 1) d = k + 1 := by omega
        have em2 : min k d = k := by omega
        have e := ih (k + 1) (by omega)
        rw [em2] at hx0 hx1 hpk ⊢
        rw [em] at e
        have e5 : (code : Int) / p ^ k / p = (code : Int) / p ^ (k + 1) := by
          rw [Int.ediv_ediv, if_neg (by omega), Int.sub_zero, Int.pow_succ]
        have c3 : ¬ i32 p = i32 0 := fun e => by rw [i32_eq (by omega) (by omega) (by omega) (by omega)] at e; omega
        rw [← e5] at e
        try simp (disch := first | assumption | omega) only [zl32, zl64, i32_add, i32_sub, i32_mul, i32_neg, i64_add, i64_sub, i64_mul, i64_neg, cv_gi, cv_gw, cv_ga, cv_gl, cv_pi, cv_pw, cv_pa, cv_pl, zf_S, zf_i, zf_l, mz1, mz2, mz3, mz4, kn_haI, kn_haJ, kn_haQ, kn_gaI, kn_gaJ, kn_gaQ, kn_hoA, kn_hlen, kn_hfI, kn_hfJ, kn_hfR, kn_hfN, kn_hoI, kn_hoJ, kn_hoR, kn_hoN, kn_hoC, kn_hoP, kn_paI, kn_paJ, kn_paQ, kn_hpF, kuI_ha, kuI_ga, kuI_pa, kuI_hA, kuI_ln, kuB_ha, kuB_ga, kuB_pa, kuB_hA, kuB_ln, kuJ_ha, kuJ_ga, kuJ_pa, kuJ_hA, kuJ_ln, kuQ_ha, kuQ_ga, kuQ_pa, kuQ_hA, kuQ_ln, kuO_fI, kuO_fJ, kuO_fR, kuO_fN, kuO_oI, kuO_oJ, kuO_oR, kuO_oN, kuO_oC, kuO_oP, kuO_pF, kvI_s, kvJ_s, kvR_s, kvN_s, kvN_0, kvN_v, kpI_s, kpJ_s, kpR_s, kpN_s, kpN_0, kpN_v, List.getElem?_cons_zero, List.getElem?_cons_succ, List.set_cons_zero, List.set_cons_succ, List.length_cons, List.length_nil, forall_eq, exists_eq_left', Option.some.injEq, true_and, and_true, reduceIte, Nat.reduceEqDiff, Nat.reduceAdd, Nat.reduceLT, hup_hup, hup_at, eq_self, if_true, if_false, implies_true, true_implies, false_implies, not_true_eq_false, not_false_eq_true, or_true, true_or, i32_10, i32_01, kI_new, kB_new, kJ_new, kI_new2, kB_new2, kJ_new2, kQ_new, kO_new, zkd, zijd, zip1, zip, zim1, i32_natN, ziL, zi_0, zi_1, kO_fI o0, kO_fJ o0, kO_fR o0, kO_fN o0, kO_oI o0, kO_oJ o0, kO_oR o0, kO_oN o0, kO_oC o0, kO_oP o0, kO_pF o0, c1, c3]
        rw [i32_div (by omega) (by omega) (by omega) (by omega), ze_tdivn hx0]
        try simp (disch := first | assumption | omega) only [zl32, zl64, i32_add, i32_sub, i32_mul, i32_neg, i64_add, i64_sub, i64_mul, i64_neg, cv_gi, cv_gw, cv_ga, cv_gl, cv_pi, cv_pw, cv_pa, cv_pl, zf_S, zf_i, zf_l, mz1, mz2, mz3, mz4, kn_haI, kn_haJ, kn_haQ, kn_gaI, kn_gaJ, kn_gaQ, kn_hoA, kn_hlen, kn_hfI, kn_hfJ, kn_hfR, kn_hfN, kn_hoI, kn_hoJ, kn_hoR, kn_hoN, kn_hoC, kn_hoP, kn_paI, kn_paJ, kn_paQ, kn_hpF, kuI_ha, kuI_ga, kuI_pa, kuI_hA, kuI_ln, kuB_ha, kuB_ga, kuB_pa, kuB_hA, kuB_ln, kuJ_ha, kuJ_ga, kuJ_pa, kuJ_hA, kuJ_ln, kuQ_ha, kuQ_ga, kuQ_pa, kuQ_hA, kuQ_ln, kuO_fI, kuO_fJ, kuO_fR, kuO_fN, kuO_oI, kuO_oJ, kuO_oR, kuO_oN, kuO_oC, kuO_oP, kuO_pF, kvI_s, kvJ_s, kvR_s, kvN_s, kvN_0, kvN_v, kpI_s, kpJ_s, kpR_s, kpN_s, kpN_0, kpN_v, List.getElem?_cons_zero, List.getElem?_cons_succ, List.set_cons_zero, List.set_cons_succ, List.length_cons, List.length_nil, forall_eq, exists_eq_left', Option.some.injEq, true_and, and_true, reduceIte, Nat.reduceEqDiff, Nat.reduceAdd, Nat.reduceLT, hup_hup, hup_at, eq_self, if_true, if_false, implies_true, true_implies, false_implies, not_true_eq_false, not_false_eq_true, or_true, true_or, i32_10, i32_01, kI_new, kB_new, kJ_new, kI_new2, kB_new2, kJ_new2, kQ_new, kO_new, zkd, zijd, zip1, zip, zim1, i32_natN, ziL, zi_0, zi_1, kO_fI o0, kO_fJ o0, kO_fR o0, kO_fN o0, kO_oI o0, kO_oJ o0, kO_oR o0, kO_oN o0, kO_oC o0, kO_oP o0, kO_pF o0, ze_emodn]
        repeat' (first | (exfalso; omega) | (with_reducible refine zb_in ?_ ?_ ?_ ?_; omega; omega; omega) | (with_reducible refine zb_le ?_ ?_ ?_ ?_ (fun _ => ?_) (fun _ => ?_); omega; omega; omega; omega) | (with_reducible refine zb_lt ?_ ?_ ?_ ?_ (fun _ => ?_) (fun _ => ?_); omega; omega; omega; omega) | (with_reducible refine zb_eq ?_ ?_ ?_ ?_ (fun _ => ?_) (fun _ => ?_); omega; omega; omega; omega) | (with_reducible refine zb_leL ?_ ?_ ?_ ?_ (fun _ => ?_) (fun _ => ?_); omega; omega; omega; omega) | (with_reducible refine zb_ltL ?_ ?_ ?_ ?_ (fun _ => ?_) (fun _ => ?_); omega; omega; omega; omega) | (with_reducible refine zb_eqL ?_ ?_ ?_ ?_ (fun _ => ?_) (fun _ => ?_); omega; omega; omega; omega) | (with_reducible refine zb_nz ?_ ?_ ?_ ?_; omega; omega; omega) | (with_reducible refine zb_nzL ?_ ?_ ?_ ?_; omega; omega; omega) | with_reducible refine zb_ite ?_ | with_reducible refine zb_iteL ?_ | ((with_reducible intro y hy); subst hy; try simp only [zl32, zl64, i32_add, i32_sub, i32_mul, i32_neg, i64_add, i64_sub, i64_mul, i64_neg, cv_gi, cv_gw, cv_ga, cv_gl, cv_pi, cv_pw, cv_pa, cv_pl, zf_S, zf_i, zf_l, mz1, mz2, mz3, mz4, zr_ii, zr_iw, zr_ia, zr_il, zr_wi, zr_ww, zr_wa, zr_wl, zr_ai, zr_aw, zr_aa, zr_al, zr_li, zr_lw, zr_la, zr_ll, zw_ii, zw_ww, zw_aa, zw_ll, reduceIte, Nat.reduceEqDiff, if_true, if_false]) | with_reducible refine zb_o1 ?_ | with_reducible refine zb_o2 ?_ | with_reducible refine zb_o3 ?_ | with_reducible refine zb_o4 ?_ | with_reducible refine zb_tr ?_ | exact trivial | with_reducible refine zb_T ?_ | with_reducible refine zb_sp ?_ ?_)
        rw [i32_div (by omega) (by omega) (by omega) (by omega), ze_tdivn hx0]
        refine e _ (fun x hx => ?_)
        by_cases c : x = k
        · subst c
          rw [zup_at]
          unfold ztrial
          rw [if_pos (by omega)]
        · rw [zup_ne _ _ c]
          exact hg x (by omega)
  unfold wX0_timesWith
  refine ⟨10, ?_⟩
  have := L6 9 0 rfl g3 (fun x hx => by omega)
  rw [hup_id i3, Nat.zero_min, Int.pow_zero, Int.ediv_one] at this
  try simp only [zl32, zl64, i32_add, i32_sub, i32_mul, i32_neg, i64_add, i64_sub, i64_mul, i64_neg, cv_gi, cv_gw, cv_ga, cv_gl, cv_pi, cv_pw, cv_pa, cv_pl, zf_S, zf_i, zf_l, mz1, mz2, mz3, mz4]
  exact this
