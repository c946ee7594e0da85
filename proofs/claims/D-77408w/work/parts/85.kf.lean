/-! CLASS 6: lists (ArrayList) -/
set_option maxRecDepth 100000
theorem kq_Fac : Cond.castable "TypesAtPrime$Factor" "java/lang/Object" ∈ hNW := nw_of (lw_at lw_m11 138 rfl) rfl
theorem kq_Kno : Cond.castable "TypesAtPrime$Knot" "java/lang/Object" ∈ hNW := nw_of (lw_at lw_m11 142 rfl) rfl
theorem kq_Sid : Cond.castable "TypesAtPrime$Side" "java/lang/Object" ∈ hNW := nw_of (lw_at lw_m11 145 rfl) rfl
theorem kq_Dec : Cond.castable "TypesAtPrime$Decided" "java/lang/Object" ∈ hNW := nw_of (lw_at lw_m11 141 rfl) rfl
theorem kq_Exa : Cond.castable "TypesAtPrime$Exact" "java/lang/Object" ∈ hNW := nw_of (lw_at lw_m11 144 rfl) rfl
theorem kq_Har : Cond.castable "TypesAtPrime$Hard" "java/lang/Object" ∈ hNW := nw_of (lw_at lw_m11 146 rfl) rfl
theorem kq_Dee : Cond.castable "TypesAtPrime$Deep" "java/lang/Object" ∈ hNW := nw_of (lw_at lw_m11 147 rfl) rfl
theorem kq_Los : Cond.castable "TypesAtPrime$Lost" "java/lang/Object" ∈ hNW := nw_of (lw_at lw_m11 143 rfl) rfl
theorem kq_DecL : Cond.castable "TypesAtPrime$Decided" "TypesAtPrime$Leaf" ∈ hNW := nw_of (lw_at lw_m11 117 rfl) rfl
theorem kq_DeeL : Cond.castable "TypesAtPrime$Deep" "TypesAtPrime$Leaf" ∈ hNW := nw_of (lw_at lw_m11 118 rfl) rfl
theorem kq_ExaL : Cond.castable "TypesAtPrime$Exact" "TypesAtPrime$Leaf" ∈ hNW := nw_of (lw_at lw_m11 119 rfl) rfl
theorem kq_HarL : Cond.castable "TypesAtPrime$Hard" "TypesAtPrime$Leaf" ∈ hNW := nw_of (lw_at lw_m11 120 rfl) rfl
theorem kq_LosL : Cond.castable "TypesAtPrime$Lost" "TypesAtPrime$Leaf" ∈ hNW := nw_of (lw_at lw_m11 121 rfl) rfl
theorem kq_DeeH : Cond.castable "TypesAtPrime$Deep" "TypesAtPrime$Hard" ∈ hNW := nw_of (lw_at lw_m11 122 rfl) rfl
theorem kq_LosH : Cond.castable "TypesAtPrime$Lost" "TypesAtPrime$Hard" ∈ hNW := nw_of (lw_at lw_m11 123 rfl) rfl
/-- classes that a list may hold -/
def kCl (c : Nat) : Prop := ∃ C T N, hcl[c]? = some (C, T, N) ∧ Cond.castable C "java/lang/Object" ∈ hNW ∧ (c == 19) = false ∧ c ≠ 16
theorem kCl_5 : kCl 5 := ⟨_, _, _, rfl, kq_Fac, rfl, by decide⟩
theorem kCl_8 : kCl 8 := ⟨_, _, _, rfl, kq_Dec, rfl, by decide⟩
theorem kCl_9 : kCl 9 := ⟨_, _, _, rfl, kq_Kno, rfl, by decide⟩
theorem kCl_11 : kCl 11 := ⟨_, _, _, rfl, kq_Har, rfl, by decide⟩
theorem kCl_12 : kCl 12 := ⟨_, _, _, rfl, kq_Dee, rfl, by decide⟩
theorem kCl_13 : kCl 13 := ⟨_, _, _, rfl, kq_Los, rfl, by decide⟩
theorem kCl_14 : kCl 14 := ⟨_, _, _, rfl, kq_Exa, rfl, by decide⟩
theorem kCl_15 : kCl 15 := ⟨_, _, _, rfl, kq_Sid, rfl, by decide⟩
def kKc (Kc : Nat → Nat) (S : hH) : Prop := ∃ f, S (Kc 0) = some (kQ 3 0 f)
/-- a list at Ls, its row at E: n elements, room for cap -/
def kAL (Kc : Nat → Nat) (S : hH) (Ls E n cap : Nat) (f : Nat → Nat) : Prop :=
  (∃ v : Int32, S Ls = some (kO 16 [.int v, .ref E, .int (i32 n)])) ∧ (∃ fe, S E = some (kQ 3 cap fe) ∧ ∀ i, i < n → fe i = some (f i)) ∧ n ≤ cap ∧ cap ≤ 1000 ∧ ((E = Kc 0 ∧ cap = 0) ∨ (E ≠ Kc 0 ∧ 10 ≤ cap))
theorem i32_sh1 (v : Nat) (h : v < 1000) : i32 (v : Int) >>> (i32 1 &&& i32 31) = i32 ((v / 2 : Nat) : Int) := by
  have : ∀ v, v < 1000 → Int32.ofInt ((v : Nat) : Int) >>> (Int32.ofInt 1 &&& Int32.ofInt 31) = Int32.ofInt ((v / 2 : Nat) : Int) := by decide
  rw [i32_d, i32_d, i32_d, i32_d]
  exact this v h
/-- a list's elements, one more at the end -/
def kap (n x : Nat) (f : Nat → Nat) : Nat → Nat := fun i => if i = n then x else f i
theorem kap_at (n x : Nat) (f : Nat → Nat) {i : Nat} (h : i = n) : kap n x f i = x := if_pos h
theorem kap_ne (n x : Nat) (f : Nat → Nat) {i : Nat} (h : i ≠ n) : kap n x f i = f i := if_neg h
theorem i32_nlt {a b : Int} (h1 : -2147483648 ≤ a) (h2 : a < 2147483648) (h3 : -2147483648 ≤ b) (h4 : b < 2147483648) (h : b ≤ a) : ¬ i32 a < i32 b := fun e => by
  rw [i32_lt h1 h2 h3 h4] at e
  omega
theorem i32_oN (n : Nat) : Int32.ofNat n = i32 n := by rw [i32_d]; exact (Int32.ofInt_eq_ofNat (n := n)).symm
theorem kC_max (a b : Int) (ha : -2147483648 ≤ a) (ha' : a < 2147483648) (hb : -2147483648 ≤ b) (hb' : b < 2147483648) (Q : Int32 → Prop) (q : Q (i32 (max a b))) : wJ9_max (i32 a) (i32 b) Q := by
  unfold wJ9_max
  try simp only [zl32, zl64, i32_add, i32_sub, i32_mul, i32_neg, i64_add, i64_sub, i64_mul, i64_neg, cv_gi, cv_gw, cv_ga, cv_gl, cv_pi, cv_pw, cv_pa, cv_pl, zf_S, zf_i, zf_l, mz1, mz2, mz3, mz4]
  repeat' (first | (exfalso; omega) | (with_reducible refine zb_in ?_ ?_ ?_ ?_; omega; omega; omega) | (with_reducible refine zb_le ?_ ?_ ?_ ?_ (fun _ => ?_) (fun _ => ?_); omega; omega; omega; omega) | (with_reducible refine zb_lt ?_ ?_ ?_ ?_ (fun _ => ?_) (fun _ => ?_); omega; omega; omega; omega) | (with_reducible refine zb_eq ?_ ?_ ?_ ?_ (fun _ => ?_) (fun _ => ?_); omega; omega; omega; omega) | (with_reducible refine zb_leL ?_ ?_ ?_ ?_ (fun _ => ?_) (fun _ => ?_); omega; omega; omega; omega) | (with_reducible refine zb_ltL ?_ ?_ ?_ ?_ (fun _ => ?_) (fun _ => ?_); omega; omega; omega; omega) | (with_reducible refine zb_eqL ?_ ?_ ?_ ?_ (fun _ => ?_) (fun _ => ?_); omega; omega; omega; omega) | (with_reducible refine zb_nz ?_ ?_ ?_ ?_; omega; omega; omega) | (with_reducible refine zb_nzL ?_ ?_ ?_ ?_; omega; omega; omega) | with_reducible refine zb_ite ?_ | with_reducible refine zb_iteL ?_ | ((with_reducible intro y hy); subst hy; try simp only [zl32, zl64, i32_add, i32_sub, i32_mul, i32_neg, i64_add, i64_sub, i64_mul, i64_neg, cv_gi, cv_gw, cv_ga, cv_gl, cv_pi, cv_pw, cv_pa, cv_pl, zf_S, zf_i, zf_l, mz1, mz2, mz3, mz4, zr_ii, zr_iw, zr_ia, zr_il, zr_wi, zr_ww, zr_wa, zr_wl, zr_ai, zr_aw, zr_aa, zr_al, zr_li, zr_lw, zr_la, zr_ll, zw_ii, zw_ww, zw_aa, zw_ll, reduceIte, Nat.reduceEqDiff, if_true, if_false]) | with_reducible refine zb_o1 ?_ | with_reducible refine zb_o2 ?_ | with_reducible refine zb_o3 ?_ | with_reducible refine zb_o4 ?_ | with_reducible refine zb_tr ?_ | exact trivial | with_reducible refine zb_T ?_ | with_reducible refine zb_sp ?_ ?_)
  · rw [Int.max_eq_right (by omega)] at q; exact q
  · rw [Int.max_eq_left (by omega)] at q; exact q
theorem kC_min (a b : Int) (ha : -2147483648 ≤ a) (ha' : a < 2147483648) (hb : -2147483648 ≤ b) (hb' : b < 2147483648) (Q : Int32 → Prop) (q : Q (i32 (min a b))) : wJ9_min (i32 a) (i32 b) Q := by
  unfold wJ9_min
  try simp only [zl32, zl64, i32_add, i32_sub, i32_mul, i32_neg, i64_add, i64_sub, i64_mul, i64_neg, cv_gi, cv_gw, cv_ga, cv_gl, cv_pi, cv_pw, cv_pa, cv_pl, zf_S, zf_i, zf_l, mz1, mz2, mz3, mz4]
  repeat' (first | (exfalso; omega) | (with_reducible refine zb_in ?_ ?_ ?_ ?_; omega; omega; omega) | (with_reducible refine zb_le ?_ ?_ ?_ ?_ (fun _ => ?_) (fun _ => ?_); omega; omega; omega; omega) | (with_reducible refine zb_lt ?_ ?_ ?_ ?_ (fun _ => ?_) (fun _ => ?_); omega; omega; omega; omega) | (with_reducible refine zb_eq ?_ ?_ ?_ ?_ (fun _ => ?_) (fun _ => ?_); omega; omega; omega; omega) | (with_reducible refine zb_leL ?_ ?_ ?_ ?_ (fun _ => ?_) (fun _ => ?_); omega; omega; omega; omega) | (with_reducible refine zb_ltL ?_ ?_ ?_ ?_ (fun _ => ?_) (fun _ => ?_); omega; omega; omega; omega) | (with_reducible refine zb_eqL ?_ ?_ ?_ ?_ (fun _ => ?_) (fun _ => ?_); omega; omega; omega; omega) | (with_reducible refine zb_nz ?_ ?_ ?_ ?_; omega; omega; omega) | (with_reducible refine zb_nzL ?_ ?_ ?_ ?_; omega; omega; omega) | with_reducible refine zb_ite ?_ | with_reducible refine zb_iteL ?_ | ((with_reducible intro y hy); subst hy; try simp only [zl32, zl64, i32_add, i32_sub, i32_mul, i32_neg, i64_add, i64_sub, i64_mul, i64_neg, cv_gi, cv_gw, cv_ga, cv_gl, cv_pi, cv_pw, cv_pa, cv_pl, zf_S, zf_i, zf_l, mz1, mz2, mz3, mz4, zr_ii, zr_iw, zr_ia, zr_il, zr_wi, zr_ww, zr_wa, zr_wl, zr_ai, zr_aw, zr_aa, zr_al, zr_li, zr_lw, zr_la, zr_ll, zw_ii, zw_ww, zw_aa, zw_ll, reduceIte, Nat.reduceEqDiff, if_true, if_false]) | with_reducible refine zb_o1 ?_ | with_reducible refine zb_o2 ?_ | with_reducible refine zb_o3 ?_ | with_reducible refine zb_o4 ?_ | with_reducible refine zb_tr ?_ | exact trivial | with_reducible refine zb_T ?_ | with_reducible refine zb_sp ?_ ?_)
  · rw [Int.min_eq_right (by omega)] at q; exact q
  · rw [Int.min_eq_left (by omega)] at q; exact q
theorem kC_newLen (a : Nat) (ha : 10 ≤ a) (ha2 : a ≤ 600) (Q : Int32 → Prop) (q : Q (i32 ((a + a / 2 : Nat) : Int))) : wJ8_newLength (i32 a) (i32 1) (i32 ((a / 2 : Nat) : Int)) Q := by
  unfold wJ8_newLength
  refine kC_max _ _ (by omega) (by omega) (by omega) (by omega) _ ?_
  rw [Int.max_eq_right (by omega)]
  try simp only [zl32, zl64, i32_add, i32_sub, i32_mul, i32_neg, i64_add, i64_sub, i64_mul, i64_neg, cv_gi, cv_gw, cv_ga, cv_gl, cv_pi, cv_pw, cv_pa, cv_pl, zf_S, zf_i, zf_l, mz1, mz2, mz3, mz4]
  repeat' (first | (exfalso; omega) | (with_reducible refine zb_in ?_ ?_ ?_ ?_; omega; omega; omega) | (with_reducible refine zb_le ?_ ?_ ?_ ?_ (fun _ => ?_) (fun _ => ?_); omega; omega; omega; omega) | (with_reducible refine zb_lt ?_ ?_ ?_ ?_ (fun _ => ?_) (fun _ => ?_); omega; omega; omega; omega) | (with_reducible refine zb_eq ?_ ?_ ?_ ?_ (fun _ => ?_) (fun _ => ?_); omega; omega; omega; omega) | (with_reducible refine zb_leL ?_ ?_ ?_ ?_ (fun _ => ?_) (fun _ => ?_); omega; omega; omega; omega) | (with_reducible refine zb_ltL ?_ ?_ ?_ ?_ (fun _ => ?_) (fun _ => ?_); omega; omega; omega; omega) | (with_reducible refine zb_eqL ?_ ?_ ?_ ?_ (fun _ => ?_) (fun _ => ?_); omega; omega; omega; omega) | (with_reducible refine zb_nz ?_ ?_ ?_ ?_; omega; omega; omega) | (with_reducible refine zb_nzL ?_ ?_ ?_ ?_; omega; omega; omega) | with_reducible refine zb_ite ?_ | with_reducible refine zb_iteL ?_ | ((with_reducible intro y hy); subst hy; try simp only [zl32, zl64, i32_add, i32_sub, i32_mul, i32_neg, i64_add, i64_sub, i64_mul, i64_neg, cv_gi, cv_gw, cv_ga, cv_gl, cv_pi, cv_pw, cv_pa, cv_pl, zf_S, zf_i, zf_l, mz1, mz2, mz3, mz4, zr_ii, zr_iw, zr_ia, zr_il, zr_wi, zr_ww, zr_wa, zr_wl, zr_ai, zr_aw, zr_aa, zr_al, zr_li, zr_lw, zr_la, zr_ll, zw_ii, zw_ww, zw_aa, zw_ll, reduceIte, Nat.reduceEqDiff, if_true, if_false]) | with_reducible refine zb_o1 ?_ | with_reducible refine zb_o2 ?_ | with_reducible refine zb_o3 ?_ | with_reducible refine zb_o4 ?_ | with_reducible refine zb_tr ?_ | exact trivial | with_reducible refine zb_T ?_ | with_reducible refine zb_sp ?_ ?_)
  rw [show ((a + a / 2 : Nat) : Int) = (a : Int) + ((a / 2 : Nat) : Int) from by omega] at q
  exact q
/-- the list takes one -/
theorem kC_add {Kc : Nat → Nat} {S : hH} {Ls E n cap : Nat} {f : Nat → Nat} (hL : kAL Kc S Ls E n cap f) (hK : kKc Kc S) {x c : Nat} {xs : List Value} (ox : S x = some (kO c xs)) (hc : kCl c) (hq : n < 10 ∨ (n ≤ 400 ∧ ∀ i, i < n → hoC S (f i) c)) (hcap : cap ≤ 600) (mc ms : Nat) (hmc : 1 ≤ mc) (hms : 10 + 2 * cap ≤ ms) (Q : Int32 → hH → Prop)
    (q : ∀ S1 E1 cap1, kAL Kc S1 Ls E1 (n + 1) cap1 (kap n x f) → (cap1 = cap ∨ (cap = 0 ∧ cap1 = 10) ∨ (n = cap ∧ 10 ≤ cap ∧ cap1 = cap + cap / 2)) → (E1 = E ∨ S E1 = none) → (∀ q y, S q = some y → q ≠ Ls → (q ≠ E ∨ q = Kc 0) → S1 q = some y) → Q (i32 1) S1) : wJ20_add Kc mc ms S Ls x Q := by
  obtain ⟨⟨v, o1⟩, ⟨fe, q1, hfe⟩, hn, hc1, hE⟩ := hL
  obtain ⟨f0, hK⟩ := hK
  obtain ⟨C, T, N, hc2, hc3, hc4, hc5⟩ := hc
  have nxL : x ≠ Ls := kne2 ox o1 (by intro e; cases e; exact hc5 rfl)
  have nxE : x ≠ E := kne2 ox q1 (by intro e; cases e)
  have nEL : E ≠ Ls := kne2 q1 o1 (by intro e; cases e)
  have nKL : Kc 0 ≠ Ls := kne2 hK o1 (by intro e; cases e)
  have hcw : ∀ S' : hH, S' x = S x → hcOKw S' x "java/lang/Object" := fun S' e => ⟨c, xs, C, T, N, e.trans ox, hc2, Or.inr hc3, hc4⟩
  have J : ∀ (kc nc : Nat) (S' : hH) (E' cap' : Nat) (fe' : Nat → Option Nat) (v' : Int32) (E'' : Nat), S' Ls = some (kO 16 [.int v', .ref E', .int (i32 n)]) → S' E' = some (kQ 3 cap' fe') → (∀ i, i < n → fe' i = some (f i)) → n < cap' → cap' ≤ 1000 → 10 ≤ cap' → E' ≠ Kc 0 → E' ≠ Ls → x ≠ E' → S' x = S x → (E' = E ∨ S E' = none) → (cap' = cap ∨ (cap = 0 ∧ cap' = 10) ∨ (n = cap ∧ 10 ≤ cap ∧ cap' = cap + cap / 2)) → (∀ q y, S q = some y → q ≠ Ls → S' q = some y) → wJ20_add_2_j11 Kc mc ms (fun S20 => Q (i32 1) S20) kc nc S' Ls x E' (i32 n) := by
    intro kc nc S' E' cap' fe' v' E'' o1' q1' hfe' hn' hc1' hc2' hE1 hE2 hxE hxS hEE hcc hfr
    unfold wJ20_add_2_j11
    try simp (disch := first | assumption | omega) only [zl32, zl64, i32_add, i32_sub, i32_mul, i32_neg, i64_add, i64_sub, i64_mul, i64_neg, cv_gi, cv_gw, cv_ga, cv_gl, cv_pi, cv_pw, cv_pa, cv_pl, zf_S, zf_i, zf_l, mz1, mz2, mz3, mz4, kn_haI, kn_haJ, kn_haQ, kn_gaI, kn_gaJ, kn_gaQ, kn_hoA, kn_hlen, kn_hfI, kn_hfJ, kn_hfR, kn_hfN, kn_hoI, kn_hoJ, kn_hoR, kn_hoN, kn_hoC, kn_hoP, kn_paI, kn_paJ, kn_paQ, kn_hpF, kuI_ha, kuI_ga, kuI_pa, kuI_hA, kuI_ln, kuB_ha, kuB_ga, kuB_pa, kuB_hA, kuB_ln, kuJ_ha, kuJ_ga, kuJ_pa, kuJ_hA, kuJ_ln, kuQ_ha, kuQ_ga, kuQ_pa, kuQ_hA, kuQ_ln, kuO_fI, kuO_fJ, kuO_fR, kuO_fN, kuO_oI, kuO_oJ, kuO_oR, kuO_oN, kuO_oC, kuO_oP, kuO_pF, kvI_s, kvJ_s, kvR_s, kvN_s, kvN_0, kvN_v, kpI_s, kpJ_s, kpR_s, kpN_s, kpN_0, kpN_v, List.getElem?_cons_zero, List.getElem?_cons_succ, List.set_cons_zero, List.set_cons_succ, List.length_cons, List.length_nil, forall_eq, exists_eq_left', Option.some.injEq, true_and, and_true, reduceIte, Nat.reduceEqDiff, Nat.reduceAdd, Nat.reduceLT, hup_hup, hup_at, eq_self, if_true, if_false, implies_true, true_implies, false_implies, not_true_eq_false, not_false_eq_true, or_true, true_or, i32_10, i32_01, kI_new, kB_new, kJ_new, kI_new2, kB_new2, kJ_new2, kQ_new, kO_new, zkd, zijd, zip1, zip, zim1, i32_natN, ziL, zi_0, zi_1, kQ_ha q1', kQ_ga q1', kQ_pa q1', kQ_hA q1', kQ_ln q1']
    repeat' (first | (exfalso; omega) | (with_reducible refine zb_in ?_ ?_ ?_ ?_; omega; omega; omega) | (with_reducible refine zb_le ?_ ?_ ?_ ?_ (fun _ => ?_) (fun _ => ?_); omega; omega; omega; omega) | (with_reducible refine zb_lt ?_ ?_ ?_ ?_ (fun _ => ?_) (fun _ => ?_); omega; omega; omega; omega) | (with_reducible refine zb_eq ?_ ?_ ?_ ?_ (fun _ => ?_) (fun _ => ?_); omega; omega; omega; omega) | (with_reducible refine zb_leL ?_ ?_ ?_ ?_ (fun _ => ?_) (fun _ => ?_); omega; omega; omega; omega) | (with_reducible refine zb_ltL ?_ ?_ ?_ ?_ (fun _ => ?_) (fun _ => ?_); omega; omega; omega; omega) | (with_reducible refine zb_eqL ?_ ?_ ?_ ?_ (fun _ => ?_) (fun _ => ?_); omega; omega; omega; omega) | (with_reducible refine zb_nz ?_ ?_ ?_ ?_; omega; omega; omega) | (with_reducible refine zb_nzL ?_ ?_ ?_ ?_; omega; omega; omega) | with_reducible refine zb_ite ?_ | with_reducible refine zb_iteL ?_ | ((with_reducible intro y hy); subst hy; try simp only [zl32, zl64, i32_add, i32_sub, i32_mul, i32_neg, i64_add, i64_sub, i64_mul, i64_neg, cv_gi, cv_gw, cv_ga, cv_gl, cv_pi, cv_pw, cv_pa, cv_pl, zf_S, zf_i, zf_l, mz1, mz2, mz3, mz4, zr_ii, zr_iw, zr_ia, zr_il, zr_wi, zr_ww, zr_wa, zr_wl, zr_ai, zr_aw, zr_aa, zr_al, zr_li, zr_lw, zr_la, zr_ll, zw_ii, zw_ww, zw_aa, zw_ll, reduceIte, Nat.reduceEqDiff, if_true, if_false]) | with_reducible refine zb_o1 ?_ | with_reducible refine zb_o2 ?_ | with_reducible refine zb_o3 ?_ | with_reducible refine zb_o4 ?_ | with_reducible refine zb_tr ?_ | exact trivial | with_reducible refine zb_T ?_ | with_reducible refine zb_sp ?_ ?_)
    refine ⟨hcw _ hxS, ?_⟩
    have hLE : Ls ≠ E' := fun e => hE2 e.symm
    try simp (disch := first | assumption | omega) only [zl32, zl64, i32_add, i32_sub, i32_mul, i32_neg, i64_add, i64_sub, i64_mul, i64_neg, cv_gi, cv_gw, cv_ga, cv_gl, cv_pi, cv_pw, cv_pa, cv_pl, zf_S, zf_i, zf_l, mz1, mz2, mz3, mz4, kn_haI, kn_haJ, kn_haQ, kn_gaI, kn_gaJ, kn_gaQ, kn_hoA, kn_hlen, kn_hfI, kn_hfJ, kn_hfR, kn_hfN, kn_hoI, kn_hoJ, kn_hoR, kn_hoN, kn_hoC, kn_hoP, kn_paI, kn_paJ, kn_paQ, kn_hpF, kuI_ha, kuI_ga, kuI_pa, kuI_hA, kuI_ln, kuB_ha, kuB_ga, kuB_pa, kuB_hA, kuB_ln, kuJ_ha, kuJ_ga, kuJ_pa, kuJ_hA, kuJ_ln, kuQ_ha, kuQ_ga, kuQ_pa, kuQ_hA, kuQ_ln, kuO_fI, kuO_fJ, kuO_fR, kuO_fN, kuO_oI, kuO_oJ, kuO_oR, kuO_oN, kuO_oC, kuO_oP, kuO_pF, kvI_s, kvJ_s, kvR_s, kvN_s, kvN_0, kvN_v, kpI_s, kpJ_s, kpR_s, kpN_s, kpN_0, kpN_v, List.getElem?_cons_zero, List.getElem?_cons_succ, List.set_cons_zero, List.set_cons_succ, List.length_cons, List.length_nil, forall_eq, exists_eq_left', Option.some.injEq, true_and, and_true, reduceIte, Nat.reduceEqDiff, Nat.reduceAdd, Nat.reduceLT, hup_hup, hup_at, eq_self, if_true, if_false, implies_true, true_implies, false_implies, not_true_eq_false, not_false_eq_true, or_true, true_or, i32_10, i32_01, kI_new, kB_new, kJ_new, kI_new2, kB_new2, kJ_new2, kQ_new, kO_new, zkd, zijd, zip1, zip, zim1, i32_natN, ziL, zi_0, zi_1, kO_fI o1', kO_fJ o1', kO_fR o1', kO_fN o1', kO_oI o1', kO_oJ o1', kO_oR o1', kO_oN o1', kO_oC o1', kO_oP o1', kO_pF o1', kQ_ha q1', kQ_ga q1', kQ_pa q1', kQ_hA q1', kQ_ln q1']
    repeat' (first | (exfalso; omega) | (with_reducible refine zb_in ?_ ?_ ?_ ?_; omega; omega; omega) | (with_reducible refine zb_le ?_ ?_ ?_ ?_ (fun _ => ?_) (fun _ => ?_); omega; omega; omega; omega) | (with_reducible refine zb_lt ?_ ?_ ?_ ?_ (fun _ => ?_) (fun _ => ?_); omega; omega; omega; omega) | (with_reducible refine zb_eq ?_ ?_ ?_ ?_ (fun _ => ?_) (fun _ => ?_); omega; omega; omega; omega) | (with_reducible refine zb_leL ?_ ?_ ?_ ?_ (fun _ => ?_) (fun _ => ?_); omega; omega; omega; omega) | (with_reducible refine zb_ltL ?_ ?_ ?_ ?_ (fun _ => ?_) (fun _ => ?_); omega; omega; omega; omega) | (with_reducible refine zb_eqL ?_ ?_ ?_ ?_ (fun _ => ?_) (fun _ => ?_); omega; omega; omega; omega) | (with_reducible refine zb_nz ?_ ?_ ?_ ?_; omega; omega; omega) | (with_reducible refine zb_nzL ?_ ?_ ?_ ?_; omega; omega; omega) | with_reducible refine zb_ite ?_ | with_reducible refine zb_iteL ?_ | ((with_reducible intro y hy); subst hy; try simp only [zl32, zl64, i32_add, i32_sub, i32_mul, i32_neg, i64_add, i64_sub, i64_mul, i64_neg, cv_gi, cv_gw, cv_ga, cv_gl, cv_pi, cv_pw, cv_pa, cv_pl, zf_S, zf_i, zf_l, mz1, mz2, mz3, mz4, zr_ii, zr_iw, zr_ia, zr_il, zr_wi, zr_ww, zr_wa, zr_wl, zr_ai, zr_aw, zr_aa, zr_al, zr_li, zr_lw, zr_la, zr_ll, zw_ii, zw_ww, zw_aa, zw_ll, reduceIte, Nat.reduceEqDiff, if_true, if_false]) | with_reducible refine zb_o1 ?_ | with_reducible refine zb_o2 ?_ | with_reducible refine zb_o3 ?_ | with_reducible refine zb_o4 ?_ | with_reducible refine zb_tr ?_ | exact trivial | with_reducible refine zb_T ?_ | with_reducible refine zb_sp ?_ ?_)
    refine q _ E' cap' ⟨⟨v', ?_⟩, ⟨va_up fe' n (some x), ?_, ?_⟩, by omega, by omega, Or.inr ⟨hE1, hc2'⟩⟩ hcc hEE ?_
    · rw [hup_ne hLE, hup_at]
      rfl
    · rw [hup_at]
    · intro i hi
      unfold va_up
      show (if i = n then some x else fe' i) = some (if i = n then x else f i)
      by_cases e : i = n
      · rw [if_pos e, if_pos e]
      · rw [if_neg e, if_neg e]
        exact hfe' i (by omega)
    · intro q y hq hq1 hq2
      have : q ≠ E' := by
        intro e
        subst e
        rcases hEE with e | e
        · rcases hq2 with h | h
          · exact h e
          · exact hE1 h
        · rw [hq] at e
          cases e
      rw [hup_ne this, hup_ne hq1]
      exact hfr q y hq hq1
  have G : ∀ (kc nc : Nat) (v' : Int32), n = cap → ∀ (S7 : hH), S7 = hup S Ls (kO 16 [.int v', .ref E, .int (i32 n)]) → wJ20_grow_2 Kc 1 (10 + 2 * cap) S7 Ls (i32 ((n : Int) + 1)) (fun r7 S7 => wJ20_add_2_j11 Kc mc ms (fun S20 => Q (i32 1) S20) kc nc S7 Ls x r7 (i32 n)) := by
    intro kc nc v' hnc S7 h7
    have o7 : S7 Ls = some (kO 16 [.int v', .ref E, .int (i32 n)]) := by rw [h7, hup_at]
    have r7 : ∀ k, k ≠ Ls → S7 k = S k := fun k hk => by rw [h7, hup_ne hk]
    have q7 : S7 E = some (kQ 3 cap fe) := (r7 E nEL).trans q1
    unfold wJ20_grow_2
    try simp (disch := first | assumption | omega) only [zl32, zl64, i32_add, i32_sub, i32_mul, i32_neg, i64_add, i64_sub, i64_mul, i64_neg, cv_gi, cv_gw, cv_ga, cv_gl, cv_pi, cv_pw, cv_pa, cv_pl, zf_S, zf_i, zf_l, mz1, mz2, mz3, mz4, kn_haI, kn_haJ, kn_haQ, kn_gaI, kn_gaJ, kn_gaQ, kn_hoA, kn_hlen, kn_hfI, kn_hfJ, kn_hfR, kn_hfN, kn_hoI, kn_hoJ, kn_hoR, kn_hoN, kn_hoC, kn_hoP, kn_paI, kn_paJ, kn_paQ, kn_hpF, kuI_ha, kuI_ga, kuI_pa, kuI_hA, kuI_ln, kuB_ha, kuB_ga, kuB_pa, kuB_hA, kuB_ln, kuJ_ha, kuJ_ga, kuJ_pa, kuJ_hA, kuJ_ln, kuQ_ha, kuQ_ga, kuQ_pa, kuQ_hA, kuQ_ln, kuO_fI, kuO_fJ, kuO_fR, kuO_fN, kuO_oI, kuO_oJ, kuO_oR, kuO_oN, kuO_oC, kuO_oP, kuO_pF, kvI_s, kvJ_s, kvR_s, kvN_s, kvN_0, kvN_v, kpI_s, kpJ_s, kpR_s, kpN_s, kpN_0, kpN_v, List.getElem?_cons_zero, List.getElem?_cons_succ, List.set_cons_zero, List.set_cons_succ, List.length_cons, List.length_nil, forall_eq, exists_eq_left', Option.some.injEq, true_and, and_true, reduceIte, Nat.reduceEqDiff, Nat.reduceAdd, Nat.reduceLT, hup_hup, hup_at, eq_self, if_true, if_false, implies_true, true_implies, false_implies, not_true_eq_false, not_false_eq_true, or_true, true_or, i32_10, i32_01, kI_new, kB_new, kJ_new, kI_new2, kB_new2, kJ_new2, kQ_new, kO_new, zkd, zijd, zip1, zip, zim1, i32_natN, ziL, zi_0, zi_1, kO_fI o7, kO_fJ o7, kO_fR o7, kO_fN o7, kO_oI o7, kO_oJ o7, kO_oR o7, kO_oN o7, kO_oC o7, kO_oP o7, kO_pF o7, kQ_ha q7, kQ_ga q7, kQ_pa q7, kQ_hA q7, kQ_ln q7, i32_oN]
    rcases hE with ⟨hE, hc0⟩ | ⟨hE, hc0⟩
    · subst hc0
      refine ⟨fun e => absurd e (i32_nlt (by omega) (by omega) (by omega) (by omega) (by omega)), fun _ => ⟨fun _ => ?_, fun e => absurd hE e⟩⟩
      refine kC_max _ _ (by omega) (by omega) (by omega) (by omega) _ ?_
      rw [Int.max_eq_left (by omega)]
      refine ⟨i32_nlt (by omega) (by omega) (by omega) (by omega) (by omega), ?_⟩
      rw [i32_nat (by omega) (by omega)]
      refine ⟨by decide, by omega, by show 0 + 10 ≤ _; omega, ?_⟩
      intro r hr
      have hrS : S r = none := by
        by_cases c : r = Ls
        · rw [c, o7] at hr; cases hr
        · rw [r7 r c] at hr; exact hr
      have nLr : Ls ≠ r := kne o7 hr
      have nxr : x ≠ r := kne ox hrS
      try rw [kQ_new]
      try simp (disch := first | assumption | omega) only [zl32, zl64, i32_add, i32_sub, i32_mul, i32_neg, i64_add, i64_sub, i64_mul, i64_neg, cv_gi, cv_gw, cv_ga, cv_gl, cv_pi, cv_pw, cv_pa, cv_pl, zf_S, zf_i, zf_l, mz1, mz2, mz3, mz4, kn_haI, kn_haJ, kn_haQ, kn_gaI, kn_gaJ, kn_gaQ, kn_hoA, kn_hlen, kn_hfI, kn_hfJ, kn_hfR, kn_hfN, kn_hoI, kn_hoJ, kn_hoR, kn_hoN, kn_hoC, kn_hoP, kn_paI, kn_paJ, kn_paQ, kn_hpF, kuI_ha, kuI_ga, kuI_pa, kuI_hA, kuI_ln, kuB_ha, kuB_ga, kuB_pa, kuB_hA, kuB_ln, kuJ_ha, kuJ_ga, kuJ_pa, kuJ_hA, kuJ_ln, kuQ_ha, kuQ_ga, kuQ_pa, kuQ_hA, kuQ_ln, kuO_fI, kuO_fJ, kuO_fR, kuO_fN, kuO_oI, kuO_oJ, kuO_oR, kuO_oN, kuO_oC, kuO_oP, kuO_pF, kvI_s, kvJ_s, kvR_s, kvN_s, kvN_0, kvN_v, kpI_s, kpJ_s, kpR_s, kpN_s, kpN_0, kpN_v, List.getElem?_cons_zero, List.getElem?_cons_succ, List.set_cons_zero, List.set_cons_succ, List.length_cons, List.length_nil, forall_eq, exists_eq_left', Option.some.injEq, true_and, and_true, reduceIte, Nat.reduceEqDiff, Nat.reduceAdd, Nat.reduceLT, hup_hup, hup_at, eq_self, if_true, if_false, implies_true, true_implies, false_implies, not_true_eq_false, not_false_eq_true, or_true, true_or, i32_10, i32_01, kI_new, kB_new, kJ_new, kI_new2, kB_new2, kJ_new2, kQ_new, kO_new, zkd, zijd, zip1, zip, zim1, i32_natN, ziL, zi_0, zi_1, kO_fI o7, kO_fJ o7, kO_fR o7, kO_fN o7, kO_oI o7, kO_oJ o7, kO_oR o7, kO_oN o7, kO_oC o7, kO_oP o7, kO_pF o7]
      refine J kc nc _ r 10 (fun _ => none) v' E ?_ ?_ (fun i hi => by omega) (by omega) (by omega) (by omega) (kne hK hrS).symm nLr.symm nxr ?_ (Or.inr hrS) (Or.inr (Or.inl ⟨rfl, rfl⟩)) ?_
      · rw [hup_ne nLr, hup_at]
      · rw [hup_at]; rfl
      · rw [hup_ne nxr, hup_ne nxL]
        exact r7 x nxL
      · intro q y hq hq1
        rw [hup_ne (kne hq hrS), hup_ne hq1, r7 q hq1]
        exact hq
    · have J20 : wJ20_grow_2_j20 Kc 1 (10 + 2 * cap) (fun r7 S7 => wJ20_add_2_j11 Kc mc ms (fun S20 => Q (i32 1) S20) kc nc S7 Ls x r7 (i32 n)) 0 0 S7 Ls (i32 ((n : Int) + 1)) (i32 cap) := by
        unfold wJ20_grow_2_j20
        try simp only [zl32, zl64, i32_add, i32_sub, i32_mul, i32_neg, i64_add, i64_sub, i64_mul, i64_neg, cv_gi, cv_gw, cv_ga, cv_gl, cv_pi, cv_pw, cv_pa, cv_pl, zf_S, zf_i, zf_l, mz1, mz2, mz3, mz4]
        rw [show (n : Int) + 1 - (cap : Int) = 1 from by omega, i32_sh1 cap (by omega)]
        refine kC_newLen cap (by omega) (by omega) _ ?_
        try simp (disch := first | assumption | omega) only [zl32, zl64, i32_add, i32_sub, i32_mul, i32_neg, i64_add, i64_sub, i64_mul, i64_neg, cv_gi, cv_gw, cv_ga, cv_gl, cv_pi, cv_pw, cv_pa, cv_pl, zf_S, zf_i, zf_l, mz1, mz2, mz3, mz4, kn_haI, kn_haJ, kn_haQ, kn_gaI, kn_gaJ, kn_gaQ, kn_hoA, kn_hlen, kn_hfI, kn_hfJ, kn_hfR, kn_hfN, kn_hoI, kn_hoJ, kn_hoR, kn_hoN, kn_hoC, kn_hoP, kn_paI, kn_paJ, kn_paQ, kn_hpF, kuI_ha, kuI_ga, kuI_pa, kuI_hA, kuI_ln, kuB_ha, kuB_ga, kuB_pa, kuB_hA, kuB_ln, kuJ_ha, kuJ_ga, kuJ_pa, kuJ_hA, kuJ_ln, kuQ_ha, kuQ_ga, kuQ_pa, kuQ_hA, kuQ_ln, kuO_fI, kuO_fJ, kuO_fR, kuO_fN, kuO_oI, kuO_oJ, kuO_oR, kuO_oN, kuO_oC, kuO_oP, kuO_pF, kvI_s, kvJ_s, kvR_s, kvN_s, kvN_0, kvN_v, kpI_s, kpJ_s, kpR_s, kpN_s, kpN_0, kpN_v, List.getElem?_cons_zero, List.getElem?_cons_succ, List.set_cons_zero, List.set_cons_succ, List.length_cons, List.length_nil, forall_eq, exists_eq_left', Option.some.injEq, true_and, and_true, reduceIte, Nat.reduceEqDiff, Nat.reduceAdd, Nat.reduceLT, hup_hup, hup_at, eq_self, if_true, if_false, implies_true, true_implies, false_implies, not_true_eq_false, not_false_eq_true, or_true, true_or, i32_10, i32_01, kI_new, kB_new, kJ_new, kI_new2, kB_new2, kJ_new2, kQ_new, kO_new, zkd, zijd, zip1, zip, zim1, i32_natN, ziL, zi_0, zi_1, kO_fI o7, kO_fJ o7, kO_fR o7, kO_fN o7, kO_oI o7, kO_oJ o7, kO_oR o7, kO_oN o7, kO_oC o7, kO_oP o7, kO_pF o7]
        refine ⟨1, 10 + 2 * cap, by omega, by omega, ?_⟩
        unfold wJ10_copyOf
        try simp (disch := first | assumption | omega) only [zl32, zl64, i32_add, i32_sub, i32_mul, i32_neg, i64_add, i64_sub, i64_mul, i64_neg, cv_gi, cv_gw, cv_ga, cv_gl, cv_pi, cv_pw, cv_pa, cv_pl, zf_S, zf_i, zf_l, mz1, mz2, mz3, mz4, kn_haI, kn_haJ, kn_haQ, kn_gaI, kn_gaJ, kn_gaQ, kn_hoA, kn_hlen, kn_hfI, kn_hfJ, kn_hfR, kn_hfN, kn_hoI, kn_hoJ, kn_hoR, kn_hoN, kn_hoC, kn_hoP, kn_paI, kn_paJ, kn_paQ, kn_hpF, kuI_ha, kuI_ga, kuI_pa, kuI_hA, kuI_ln, kuB_ha, kuB_ga, kuB_pa, kuB_hA, kuB_ln, kuJ_ha, kuJ_ga, kuJ_pa, kuJ_hA, kuJ_ln, kuQ_ha, kuQ_ga, kuQ_pa, kuQ_hA, kuQ_ln, kuO_fI, kuO_fJ, kuO_fR, kuO_fN, kuO_oI, kuO_oJ, kuO_oR, kuO_oN, kuO_oC, kuO_oP, kuO_pF, kvI_s, kvJ_s, kvR_s, kvN_s, kvN_0, kvN_v, kpI_s, kpJ_s, kpR_s, kpN_s, kpN_0, kpN_v, List.getElem?_cons_zero, List.getElem?_cons_succ, List.set_cons_zero, List.set_cons_succ, List.length_cons, List.length_nil, forall_eq, exists_eq_left', Option.some.injEq, true_and, and_true, reduceIte, Nat.reduceEqDiff, Nat.reduceAdd, Nat.reduceLT, hup_hup, hup_at, eq_self, if_true, if_false, implies_true, true_implies, false_implies, not_true_eq_false, not_false_eq_true, or_true, true_or, i32_10, i32_01, kI_new, kB_new, kJ_new, kI_new2, kB_new2, kJ_new2, kQ_new, kO_new, zkd, zijd, zip1, zip, zim1, i32_natN, ziL, zi_0, zi_1, kQ_ha q7, kQ_ga q7, kQ_pa q7, kQ_hA q7, kQ_ln q7]
        refine ⟨1, 10 + 2 * cap, by omega, by omega, ?_⟩
        unfold wJ10_copyOf_2
        intro a1 ha1
        refine ⟨fun _ => ?_, fun e => absurd (by rw [ha1]) e⟩
        try simp only [zl32, zl64, i32_add, i32_sub, i32_mul, i32_neg, i64_add, i64_sub, i64_mul, i64_neg, cv_gi, cv_gw, cv_ga, cv_gl, cv_pi, cv_pw, cv_pa, cv_pl, zf_S, zf_i, zf_l, mz1, mz2, mz3, mz4]
        rw [i32_natN (by omega)]
        refine ⟨i32_nlt (by omega) (by omega) (by omega) (by omega) (by omega), by omega, by omega, by omega, ?_⟩
        intro r hr S52 h52
        subst h52
        have hrS : S r = none := by
          by_cases c : r = Ls
          · rw [c, o7] at hr; cases hr
          · rw [r7 r c] at hr; exact hr
        have nLr : Ls ≠ r := kne o7 hr
        have nxr : x ≠ r := kne ox hrS
        have nEr : E ≠ r := kne q1 hrS
        rw [kQ_new]
        try simp (disch := first | assumption | omega) only [zl32, zl64, i32_add, i32_sub, i32_mul, i32_neg, i64_add, i64_sub, i64_mul, i64_neg, cv_gi, cv_gw, cv_ga, cv_gl, cv_pi, cv_pw, cv_pa, cv_pl, zf_S, zf_i, zf_l, mz1, mz2, mz3, mz4, kn_haI, kn_haJ, kn_haQ, kn_gaI, kn_gaJ, kn_gaQ, kn_hoA, kn_hlen, kn_hfI, kn_hfJ, kn_hfR, kn_hfN, kn_hoI, kn_hoJ, kn_hoR, kn_hoN, kn_hoC, kn_hoP, kn_paI, kn_paJ, kn_paQ, kn_hpF, kuI_ha, kuI_ga, kuI_pa, kuI_hA, kuI_ln, kuB_ha, kuB_ga, kuB_pa, kuB_hA, kuB_ln, kuJ_ha, kuJ_ga, kuJ_pa, kuJ_hA, kuJ_ln, kuQ_ha, kuQ_ga, kuQ_pa, kuQ_hA, kuQ_ln, kuO_fI, kuO_fJ, kuO_fR, kuO_fN, kuO_oI, kuO_oJ, kuO_oR, kuO_oN, kuO_oC, kuO_oP, kuO_pF, kvI_s, kvJ_s, kvR_s, kvN_s, kvN_0, kvN_v, kpI_s, kpJ_s, kpR_s, kpN_s, kpN_0, kpN_v, List.getElem?_cons_zero, List.getElem?_cons_succ, List.set_cons_zero, List.set_cons_succ, List.length_cons, List.length_nil, forall_eq, exists_eq_left', Option.some.injEq, true_and, and_true, reduceIte, Nat.reduceEqDiff, Nat.reduceAdd, Nat.reduceLT, hup_hup, hup_at, eq_self, if_true, if_false, implies_true, true_implies, false_implies, not_true_eq_false, not_false_eq_true, or_true, true_or, i32_10, i32_01, kI_new, kB_new, kJ_new, kI_new2, kB_new2, kJ_new2, kQ_new, kO_new, zkd, zijd, zip1, zip, zim1, i32_natN, ziL, zi_0, zi_1, kQ_ha q7, kQ_ga q7, kQ_pa q7, kQ_hA q7, kQ_ln q7, i32_oN]
        refine kC_min _ _ (by omega) (by omega) (by omega) (by omega) _ ?_
        rw [Int.min_eq_left (by omega)]
        refine ⟨cap, fe, cap + cap / 2, (fun _ => none), by rw [hup_ne nEr]; exact q7, rfl, ?_⟩
        rw [i32_natN (by omega)]
        refine ⟨i32_nlt (by omega) (by omega) (by omega) (by omega) (by omega), Nat.le_refl _, by omega, ?_, ?_⟩
        · rcases hq with hq | ⟨hq1, hq2⟩
          · omega
          · refine ⟨c, C, T, N, hc2, hc4, hc3, fun i hi y hy => ?_⟩
            rw [hfe i (by omega)] at hy
            cases hy
            obtain ⟨fs, e⟩ := hq2 i (by omega)
            have n1 : f i ≠ Ls := kne2 e o1 (by intro e; cases e; exact hc5 rfl)
            exact ⟨fs, by rw [hup_ne (kne e hrS), r7 _ n1]; exact e⟩
        · try simp (disch := first | assumption | omega) only [zl32, zl64, i32_add, i32_sub, i32_mul, i32_neg, i64_add, i64_sub, i64_mul, i64_neg, cv_gi, cv_gw, cv_ga, cv_gl, cv_pi, cv_pw, cv_pa, cv_pl, zf_S, zf_i, zf_l, mz1, mz2, mz3, mz4, kn_haI, kn_haJ, kn_haQ, kn_gaI, kn_gaJ, kn_gaQ, kn_hoA, kn_hlen, kn_hfI, kn_hfJ, kn_hfR, kn_hfN, kn_hoI, kn_hoJ, kn_hoR, kn_hoN, kn_hoC, kn_hoP, kn_paI, kn_paJ, kn_paQ, kn_hpF, kuI_ha, kuI_ga, kuI_pa, kuI_hA, kuI_ln, kuB_ha, kuB_ga, kuB_pa, kuB_hA, kuB_ln, kuJ_ha, kuJ_ga, kuJ_pa, kuJ_hA, kuJ_ln, kuQ_ha, kuQ_ga, kuQ_pa, kuQ_hA, kuQ_ln, kuO_fI, kuO_fJ, kuO_fR, kuO_fN, kuO_oI, kuO_oJ, kuO_oR, kuO_oN, kuO_oC, kuO_oP, kuO_pF, kvI_s, kvJ_s, kvR_s, kvN_s, kvN_0, kvN_v, kpI_s, kpJ_s, kpR_s, kpN_s, kpN_0, kpN_v, List.getElem?_cons_zero, List.getElem?_cons_succ, List.set_cons_zero, List.set_cons_succ, List.length_cons, List.length_nil, forall_eq, exists_eq_left', Option.some.injEq, true_and, and_true, reduceIte, Nat.reduceEqDiff, Nat.reduceAdd, Nat.reduceLT, hup_hup, hup_at, eq_self, if_true, if_false, implies_true, true_implies, false_implies, not_true_eq_false, not_false_eq_true, or_true, true_or, i32_10, i32_01, kI_new, kB_new, kJ_new, kI_new2, kB_new2, kJ_new2, kQ_new, kO_new, zkd, zijd, zip1, zip, zim1, i32_natN, ziL, zi_0, zi_1, kO_fI o7, kO_fJ o7, kO_fR o7, kO_fN o7, kO_oI o7, kO_oJ o7, kO_oR o7, kO_oN o7, kO_oC o7, kO_oP o7, kO_pF o7]
          refine J kc nc _ r (cap + cap / 2) (va_cpy fe (fun _ => none) 0 0 cap) v' E ?_ ?_ (fun i hi => ?_) (by omega) (by omega) (by omega) (kne hK hrS).symm nLr.symm nxr ?_ (Or.inr hrS) (Or.inr (Or.inr ⟨hnc, hc0, rfl⟩)) ?_
          · rw [hup_ne nLr, hup_at]
          · rw [hup_at]
          · unfold va_cpy
            rw [if_pos (by omega), show 0 + (i - 0) = i from by omega]
            exact hfe i hi
          · rw [hup_ne nxr, hup_ne nxL]
            exact r7 x nxL
          · intro q y hq hq1
            rw [hup_ne (kne hq hrS), hup_ne hq1, r7 q hq1]
            exact hq
      refine ⟨fun _ => J20, fun _ => ⟨fun e => absurd e hE, fun _ => J20⟩⟩
  unfold wJ20_add
  try simp (disch := first | assumption | omega) only [zl32, zl64, i32_add, i32_sub, i32_mul, i32_neg, i64_add, i64_sub, i64_mul, i64_neg, cv_gi, cv_gw, cv_ga, cv_gl, cv_pi, cv_pw, cv_pa, cv_pl, zf_S, zf_i, zf_l, mz1, mz2, mz3, mz4, kn_haI, kn_haJ, kn_haQ, kn_gaI, kn_gaJ, kn_gaQ, kn_hoA, kn_hlen, kn_hfI, kn_hfJ, kn_hfR, kn_hfN, kn_hoI, kn_hoJ, kn_hoR, kn_hoN, kn_hoC, kn_hoP, kn_paI, kn_paJ, kn_paQ, kn_hpF, kuI_ha, kuI_ga, kuI_pa, kuI_hA, kuI_ln, kuB_ha, kuB_ga, kuB_pa, kuB_hA, kuB_ln, kuJ_ha, kuJ_ga, kuJ_pa, kuJ_hA, kuJ_ln, kuQ_ha, kuQ_ga, kuQ_pa, kuQ_hA, kuQ_ln, kuO_fI, kuO_fJ, kuO_fR, kuO_fN, kuO_oI, kuO_oJ, kuO_oR, kuO_oN, kuO_oC, kuO_oP, kuO_pF, kvI_s, kvJ_s, kvR_s, kvN_s, kvN_0, kvN_v, kpI_s, kpJ_s, kpR_s, kpN_s, kpN_0, kpN_v, List.getElem?_cons_zero, List.getElem?_cons_succ, List.set_cons_zero, List.set_cons_succ, List.length_cons, List.length_nil, forall_eq, exists_eq_left', Option.some.injEq, true_and, and_true, reduceIte, Nat.reduceEqDiff, Nat.reduceAdd, Nat.reduceLT, hup_hup, hup_at, eq_self, if_true, if_false, implies_true, true_implies, false_implies, not_true_eq_false, not_false_eq_true, or_true, true_or, i32_10, i32_01, kI_new, kB_new, kJ_new, kI_new2, kB_new2, kJ_new2, kQ_new, kO_new, zkd, zijd, zip1, zip, zim1, i32_natN, ziL, zi_0, zi_1, kO_fI o1, kO_fJ o1, kO_fR o1, kO_fN o1, kO_oI o1, kO_oJ o1, kO_oR o1, kO_oN o1, kO_oC o1, kO_oP o1, kO_pF o1]
  refine ⟨1, 10 + 2 * cap, by omega, by omega, ?_⟩
  unfold wJ20_add_2
  have q1' : (hup S Ls (kO 16 [.int (v + i32 1), .ref E, .int (i32 n)])) E = some (kQ 3 cap fe) := by rw [hup_ne nEL]; exact q1
  try simp (disch := first | assumption | omega) only [zl32, zl64, i32_add, i32_sub, i32_mul, i32_neg, i64_add, i64_sub, i64_mul, i64_neg, cv_gi, cv_gw, cv_ga, cv_gl, cv_pi, cv_pw, cv_pa, cv_pl, zf_S, zf_i, zf_l, mz1, mz2, mz3, mz4, kn_haI, kn_haJ, kn_haQ, kn_gaI, kn_gaJ, kn_gaQ, kn_hoA, kn_hlen, kn_hfI, kn_hfJ, kn_hfR, kn_hfN, kn_hoI, kn_hoJ, kn_hoR, kn_hoN, kn_hoC, kn_hoP, kn_paI, kn_paJ, kn_paQ, kn_hpF, kuI_ha, kuI_ga, kuI_pa, kuI_hA, kuI_ln, kuB_ha, kuB_ga, kuB_pa, kuB_hA, kuB_ln, kuJ_ha, kuJ_ga, kuJ_pa, kuJ_hA, kuJ_ln, kuQ_ha, kuQ_ga, kuQ_pa, kuQ_hA, kuQ_ln, kuO_fI, kuO_fJ, kuO_fR, kuO_fN, kuO_oI, kuO_oJ, kuO_oR, kuO_oN, kuO_oC, kuO_oP, kuO_pF, kvI_s, kvJ_s, kvR_s, kvN_s, kvN_0, kvN_v, kpI_s, kpJ_s, kpR_s, kpN_s, kpN_0, kpN_v, List.getElem?_cons_zero, List.getElem?_cons_succ, List.set_cons_zero, List.set_cons_succ, List.length_cons, List.length_nil, forall_eq, exists_eq_left', Option.some.injEq, true_and, and_true, reduceIte, Nat.reduceEqDiff, Nat.reduceAdd, Nat.reduceLT, hup_hup, hup_at, eq_self, if_true, if_false, implies_true, true_implies, false_implies, not_true_eq_false, not_false_eq_true, or_true, true_or, i32_10, i32_01, kI_new, kB_new, kJ_new, kI_new2, kB_new2, kJ_new2, kQ_new, kO_new, zkd, zijd, zip1, zip, zim1, i32_natN, ziL, zi_0, zi_1, kQ_ha q1', kQ_ga q1', kQ_pa q1', kQ_hA q1', kQ_ln q1', i32_oN]
  refine ⟨fun e => ?_, fun e => ?_⟩
  · rw [i32_eq (by omega) (by omega) (by omega) (by omega)] at e
    refine ⟨1, 10 + 2 * cap, by omega, by omega, ?_⟩
    unfold wJ20_grow
    try simp (disch := first | assumption | omega) only [zl32, zl64, i32_add, i32_sub, i32_mul, i32_neg, i64_add, i64_sub, i64_mul, i64_neg, cv_gi, cv_gw, cv_ga, cv_gl, cv_pi, cv_pw, cv_pa, cv_pl, zf_S, zf_i, zf_l, mz1, mz2, mz3, mz4, kn_haI, kn_haJ, kn_haQ, kn_gaI, kn_gaJ, kn_gaQ, kn_hoA, kn_hlen, kn_hfI, kn_hfJ, kn_hfR, kn_hfN, kn_hoI, kn_hoJ, kn_hoR, kn_hoN, kn_hoC, kn_hoP, kn_paI, kn_paJ, kn_paQ, kn_hpF, kuI_ha, kuI_ga, kuI_pa, kuI_hA, kuI_ln, kuB_ha, kuB_ga, kuB_pa, kuB_hA, kuB_ln, kuJ_ha, kuJ_ga, kuJ_pa, kuJ_hA, kuJ_ln, kuQ_ha, kuQ_ga, kuQ_pa, kuQ_hA, kuQ_ln, kuO_fI, kuO_fJ, kuO_fR, kuO_fN, kuO_oI, kuO_oJ, kuO_oR, kuO_oN, kuO_oC, kuO_oP, kuO_pF, kvI_s, kvJ_s, kvR_s, kvN_s, kvN_0, kvN_v, kpI_s, kpJ_s, kpR_s, kpN_s, kpN_0, kpN_v, List.getElem?_cons_zero, List.getElem?_cons_succ, List.set_cons_zero, List.set_cons_succ, List.length_cons, List.length_nil, forall_eq, exists_eq_left', Option.some.injEq, true_and, and_true, reduceIte, Nat.reduceEqDiff, Nat.reduceAdd, Nat.reduceLT, hup_hup, hup_at, eq_self, if_true, if_false, implies_true, true_implies, false_implies, not_true_eq_false, not_false_eq_true, or_true, true_or, i32_10, i32_01, kI_new, kB_new, kJ_new, kI_new2, kB_new2, kJ_new2, kQ_new, kO_new, zkd, zijd, zip1, zip, zim1, i32_natN, ziL, zi_0, zi_1]
    refine ⟨1, 10 + 2 * cap, by omega, by omega, ?_⟩
    exact G 0 0 _ (by omega) _ rfl
  · rw [i32_eq (by omega) (by omega) (by omega) (by omega)] at e
    rcases hE with ⟨hE, hc0⟩ | ⟨hE, hc0⟩
    · omega
    · refine J 0 0 _ E cap fe (v + i32 1) E (hup_at _ _ _) q1' hfe (by omega) hc1 hc0 hE nEL nxE (hup_ne nxL) (Or.inl rfl) (Or.inl rfl) (fun q y hq hq1 => ?_)
      rw [hup_ne hq1]
      exact hq
