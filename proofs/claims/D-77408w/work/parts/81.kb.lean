/-! CLASS 2: small methods -/
set_option maxRecDepth 100000
theorem i32_10 : (i32 1 = i32 0) = False := eq_false (by rw [i32_eq (by omega) (by omega) (by omega) (by omega)]; omega)
theorem i32_01 : (i32 0 = i32 1) = False := eq_false (by rw [i32_eq (by omega) (by omega) (by omega) (by omega)]; omega)
theorem i64_sgn (x : Int64) : 0 ≤ x ↔ x.toBitVec.msb = false := by
  rw [Int64.le_iff_toInt_le, BitVec.msb_eq_toInt]
  show (0 : Int) ≤ x.toInt ↔ _
  rw [decide_eq_false_iff_not]
  show (0 : Int) ≤ x.toInt ↔ ¬ x.toInt < 0
  omega
theorem i32_sgn (x : Int32) : 0 ≤ x ↔ x.toBitVec.msb = false := by
  rw [Int32.le_iff_toInt_le, BitVec.msb_eq_toInt]
  show (0 : Int) ≤ x.toInt ↔ _
  rw [decide_eq_false_iff_not]
  show (0 : Int) ≤ x.toInt ↔ ¬ x.toInt < 0
  omega
theorem i64_xor (x y : Int64) : 0 ≤ x ^^^ y ↔ (0 ≤ x ↔ 0 ≤ y) := by
  rw [i64_sgn, i64_sgn, i64_sgn, Int64.toBitVec_xor, BitVec.msb_xor]
  cases x.toBitVec.msb <;> cases y.toBitVec.msb <;> simp
theorem i32_xor (x y : Int32) : 0 ≤ x ^^^ y ↔ (0 ≤ x ↔ 0 ≤ y) := by
  rw [i32_sgn, i32_sgn, i32_sgn, Int32.toBitVec_xor, BitVec.msb_xor]
  cases x.toBitVec.msb <;> cases y.toBitVec.msb <;> simp
theorem i64_xr {a b : Int} (h1 : -9223372036854775808 ≤ a) (h2 : a < 9223372036854775808) (h3 : 0 ≤ b) (h4 : b < 9223372036854775808) : i64 0 ≤ i64 a ^^^ i64 b ↔ 0 ≤ a := by
  rw [← i64_0, i64_xor, i64_0, i64_le (by omega) (by omega) (by omega) (by omega), i64_le (by omega) (by omega) (by omega) (by omega)]
  omega
theorem i32_xr {a b : Int} (h1 : -2147483648 ≤ a) (h2 : a < 2147483648) (h3 : 0 ≤ b) (h4 : b < 2147483648) : i32 0 ≤ i32 a ^^^ i32 b ↔ 0 ≤ a := by
  rw [← i32_0, i32_xor, i32_0, i32_le (by omega) (by omega) (by omega) (by omega), i32_le (by omega) (by omega) (by omega) (by omega)]
  omega
theorem kC_fmJ (a M : Int) (h1 : -4611686018427387904 ≤ a) (h2 : a < 4611686018427387904) (h3 : 0 < M) (h4 : M < 1073741824) (Q : Int64 → Prop) (q : Q (i64 (a % M))) : wJ9_floorMod (i64 a) (i64 M) Q := by
  obtain ⟨e1, e2, e3, e4⟩ := ze_mod a M h3
  have r : a - a.tdiv M * M = a.tmod M := ze_tmod a M
  have hb : -4611686018427387904 ≤ a.tdiv M ∧ a.tdiv M ≤ 4611686018427387904 := by
    have := Int.natAbs_tdiv_le_natAbs a M
    omega
  unfold wJ9_floorMod
  refine ⟨fun e => ?_, ?_⟩
  · rw [i64_0, i64_eq (by omega) (by omega) (by omega) (by omega)] at e
    omega
  · rw [i64_0, i64_div (by omega) (by omega) (by omega) (by omega), i64_mul, i64_sub, r, i64_add]
    refine ⟨fun e => ?_, fun e => ⟨fun f => ?_, fun f => ?_⟩⟩
    · rw [i64_xr (by omega) (by omega) (by omega) (by omega)] at e
      rw [e1 (Int.tmod_nonneg M e)]
      exact q
    · rw [i64_eq (by omega) (by omega) (by omega) (by omega)] at f
      rw [e1 (by omega)]
      exact q
    · rw [i64_eq (by omega) (by omega) (by omega) (by omega)] at f
      rw [i64_xr (by omega) (by omega) (by omega) (by omega)] at e
      have : a.tmod M ≤ 0 := by
        have z : a.tmod M = -((-a).tmod M) := by rw [Int.neg_tmod]; omega
        have := Int.tmod_nonneg (a := -a) M (by omega)
        omega
      rw [e2 (by omega)]
      exact q
theorem kC_fmI (a M : Int) (h1 : -1073741824 ≤ a) (h2 : a < 1073741824) (h3 : 0 < M) (h4 : M < 1073741824) (Q : Int32 → Prop) (q : Q (i32 (a % M))) : wJ9_floorMod_2 (i32 a) (i32 M) Q := by
  obtain ⟨e1, e2, e3, e4⟩ := ze_mod a M h3
  have r : a - a.tdiv M * M = a.tmod M := ze_tmod a M
  have hb : -1073741824 ≤ a.tdiv M ∧ a.tdiv M ≤ 1073741824 := by
    have := Int.natAbs_tdiv_le_natAbs a M
    omega
  unfold wJ9_floorMod_2
  refine ⟨fun e => ?_, ?_⟩
  · rw [i32_0, i32_eq (by omega) (by omega) (by omega) (by omega)] at e
    omega
  · rw [i32_0, i32_div (by omega) (by omega) (by omega) (by omega), i32_mul, i32_sub, r, i32_add]
    refine ⟨fun e => ?_, fun e => ⟨fun f => ?_, fun f => ?_⟩⟩
    · rw [i32_xr (by omega) (by omega) (by omega) (by omega)] at e
      rw [e1 (Int.tmod_nonneg M e)]
      exact q
    · rw [i32_eq (by omega) (by omega) (by omega) (by omega)] at f
      rw [e1 (by omega)]
      exact q
    · rw [i32_eq (by omega) (by omega) (by omega) (by omega)] at f
      rw [i32_xr (by omega) (by omega) (by omega) (by omega)] at e
      have : a.tmod M ≤ 0 := by
        have z : a.tmod M = -((-a).tmod M) := by rw [Int.neg_tmod]; omega
        have := Int.tmod_nonneg (a := -a) M (by omega)
        omega
      rw [e2 (by omega)]
      exact q
theorem kC_in (a b c : Int) (Q : Int32 → Prop) (ha : -9223372036854775808 ≤ a) (ha' : a < 9223372036854775808) (hb : -9223372036854775808 ≤ b) (hb' : b < 9223372036854775808) (hc : -9223372036854775808 ≤ c) (hc' : c < 9223372036854775808) (h1 : b ≤ a → a ≤ c → Q (i32 1)) (h0 : (a < b ∨ c < a) → Q (i32 0)) : wX0_in (i64 a) (i64 b) (i64 c) Q := by
  unfold wX0_in
  try simp only [zl32, zl64, i32_add, i32_sub, i32_mul, i32_neg, i64_add, i64_sub, i64_mul, i64_neg, cv_gi, cv_gw, cv_ga, cv_gl, cv_pi, cv_pw, cv_pa, cv_pl, zf_S, zf_i, zf_l, mz1, mz2, mz3, mz4]
  repeat' (first | (exfalso; omega) | (with_reducible refine zb_in ?_ ?_ ?_ ?_; omega; omega; omega) | (with_reducible refine zb_le ?_ ?_ ?_ ?_ (fun _ => ?_) (fun _ => ?_); omega; omega; omega; omega) | (with_reducible refine zb_lt ?_ ?_ ?_ ?_ (fun _ => ?_) (fun _ => ?_); omega; omega; omega; omega) | (with_reducible refine zb_eq ?_ ?_ ?_ ?_ (fun _ => ?_) (fun _ => ?_); omega; omega; omega; omega) | (with_reducible refine zb_leL ?_ ?_ ?_ ?_ (fun _ => ?_) (fun _ => ?_); omega; omega; omega; omega) | (with_reducible refine zb_ltL ?_ ?_ ?_ ?_ (fun _ => ?_) (fun _ => ?_); omega; omega; omega; omega) | (with_reducible refine zb_eqL ?_ ?_ ?_ ?_ (fun _ => ?_) (fun _ => ?_); omega; omega; omega; omega) | (with_reducible refine zb_nz ?_ ?_ ?_ ?_; omega; omega; omega) | (with_reducible refine zb_nzL ?_ ?_ ?_ ?_; omega; omega; omega) | with_reducible refine zb_ite ?_ | with_reducible refine zb_iteL ?_ | ((with_reducible intro y hy); subst hy; try simp only [zl32, zl64, i32_add, i32_sub, i32_mul, i32_neg, i64_add, i64_sub, i64_mul, i64_neg, cv_gi, cv_gw, cv_ga, cv_gl, cv_pi, cv_pw, cv_pa, cv_pl, zf_S, zf_i, zf_l, mz1, mz2, mz3, mz4, zr_ii, zr_iw, zr_ia, zr_il, zr_wi, zr_ww, zr_wa, zr_wl, zr_ai, zr_aw, zr_aa, zr_al, zr_li, zr_lw, zr_la, zr_ll, zw_ii, zw_ww, zw_aa, zw_ll, reduceIte, Nat.reduceEqDiff, if_true, if_false]) | with_reducible refine zb_o1 ?_ | with_reducible refine zb_o2 ?_ | with_reducible refine zb_o3 ?_ | with_reducible refine zb_o4 ?_ | with_reducible refine zb_tr ?_ | exact trivial | with_reducible refine zb_T ?_ | with_reducible refine zb_sp ?_ ?_)
  · exact h0 (Or.inl (by assumption))
  · exact h0 (Or.inr (by assumption))
  · exact h1 (by omega) (by omega)
theorem kC_isSlot (x : Int) (h : -2147483648 ≤ x) (h' : x < 2147483648) (Q : Int32 → Prop) (h1 : 0 ≤ x → x < 5 → Q (i32 1)) (h0 : (x < 0 ∨ 5 ≤ x) → Q (i32 0)) : wX0_isSlot (i32 x) Q := by
  unfold wX0_isSlot
  rw [i32_64 h h']
  try simp only [zl32, zl64, i32_add, i32_sub, i32_mul, i32_neg, i64_add, i64_sub, i64_mul, i64_neg, cv_gi, cv_gw, cv_ga, cv_gl, cv_pi, cv_pw, cv_pa, cv_pl, zf_S, zf_i, zf_l, mz1, mz2, mz3, mz4]
  refine kC_in _ _ _ _ (by omega) (by omega) (by omega) (by omega) (by omega) (by omega) (fun p q => ?_) (fun p => ?_)
  · exact ⟨Or.inr rfl, h1 p (by omega)⟩
  · exact ⟨Or.inl rfl, h0 (by omega)⟩
theorem kC_isPart (x : Int) (h : -2147483648 ≤ x) (h' : x < 2147483648) (Q : Int32 → Prop) (h1 : 0 ≤ x → x < 9 → Q (i32 1)) (h0 : (x < 0 ∨ 9 ≤ x) → Q (i32 0)) : wX0_isPart (i32 x) Q := by
  unfold wX0_isPart
  rw [i32_64 h h']
  try simp only [zl32, zl64, i32_add, i32_sub, i32_mul, i32_neg, i64_add, i64_sub, i64_mul, i64_neg, cv_gi, cv_gw, cv_ga, cv_gl, cv_pi, cv_pw, cv_pa, cv_pl, zf_S, zf_i, zf_l, mz1, mz2, mz3, mz4]
  refine kC_in _ _ _ _ (by omega) (by omega) (by omega) (by omega) (by omega) (by omega) (fun p q => ?_) (fun p => ?_)
  · exact ⟨Or.inr rfl, h1 p (by omega)⟩
  · exact ⟨Or.inl rfl, h0 (by omega)⟩
theorem kC_isSheet (x : Int) (h : -2147483648 ≤ x) (h' : x < 2147483648) (Q : Int32 → Prop) (h1 : 0 ≤ x → x < 4 → Q (i32 1)) (h0 : (x < 0 ∨ 4 ≤ x) → Q (i32 0)) : wX0_isSheet (i32 x) Q := by
  unfold wX0_isSheet
  rw [i32_64 h h']
  try simp only [zl32, zl64, i32_add, i32_sub, i32_mul, i32_neg, i64_add, i64_sub, i64_mul, i64_neg, cv_gi, cv_gw, cv_ga, cv_gl, cv_pi, cv_pw, cv_pa, cv_pl, zf_S, zf_i, zf_l, mz1, mz2, mz3, mz4]
  refine kC_in _ _ _ _ (by omega) (by omega) (by omega) (by omega) (by omega) (by omega) (fun p q => ?_) (fun p => ?_)
  · exact ⟨Or.inr rfl, h1 p (by omega)⟩
  · exact ⟨Or.inl rfl, h0 (by omega)⟩
theorem kC_degreeOf {S : hH} {a : Nat} {f : Nat → Int} (ia : S a = some (kI 9 f)) (hf : ∀ k, k < 9 → -2147483648 ≤ f k ∧ f k < 2147483648) (Q : Int32 → Prop) (q : Q (i32 (degN f 9))) : wX0_degreeOf S a Q := by
  have L : ∀ n : Nat, n ≤ 9 → degN f n = degN f 9 → wX0_degreeOf_l5 Q S a (n + 1) (i32 ((n : Int) - 1)) := by
    intro n
    induction n with
    | zero =>
      intro _ e
      rw [wX0_degreeOf_l5]
      try simp only [zl32, zl64, i32_add, i32_sub, i32_mul, i32_neg, i64_add, i64_sub, i64_mul, i64_neg, cv_gi, cv_gw, cv_ga, cv_gl, cv_pi, cv_pw, cv_pa, cv_pl, zf_S, zf_i, zf_l, mz1, mz2, mz3, mz4]
      repeat' (first | (exfalso; omega) | (with_reducible refine zb_in ?_ ?_ ?_ ?_; omega; omega; omega) | (with_reducible refine zb_le ?_ ?_ ?_ ?_ (fun _ => ?_) (fun _ => ?_); omega; omega; omega; omega) | (with_reducible refine zb_lt ?_ ?_ ?_ ?_ (fun _ => ?_) (fun _ => ?_); omega; omega; omega; omega) | (with_reducible refine zb_eq ?_ ?_ ?_ ?_ (fun _ => ?_) (fun _ => ?_); omega; omega; omega; omega) | (with_reducible refine zb_leL ?_ ?_ ?_ ?_ (fun _ => ?_) (fun _ => ?_); omega; omega; omega; omega) | (with_reducible refine zb_ltL ?_ ?_ ?_ ?_ (fun _ => ?_) (fun _ => ?_); omega; omega; omega; omega) | (with_reducible refine zb_eqL ?_ ?_ ?_ ?_ (fun _ => ?_) (fun _ => ?_); omega; omega; omega; omega) | (with_reducible refine zb_nz ?_ ?_ ?_ ?_; omega; omega; omega) | (with_reducible refine zb_nzL ?_ ?_ ?_ ?_; omega; omega; omega) | with_reducible refine zb_ite ?_ | with_reducible refine zb_iteL ?_ | ((with_reducible intro y hy); subst hy; try simp only [zl32, zl64, i32_add, i32_sub, i32_mul, i32_neg, i64_add, i64_sub, i64_mul, i64_neg, cv_gi, cv_gw, cv_ga, cv_gl, cv_pi, cv_pw, cv_pa, cv_pl, zf_S, zf_i, zf_l, mz1, mz2, mz3, mz4, zr_ii, zr_iw, zr_ia, zr_il, zr_wi, zr_ww, zr_wa, zr_wl, zr_ai, zr_aw, zr_aa, zr_al, zr_li, zr_lw, zr_la, zr_ll, zw_ii, zw_ww, zw_aa, zw_ll, reduceIte, Nat.reduceEqDiff, if_true, if_false]) | with_reducible refine zb_o1 ?_ | with_reducible refine zb_o2 ?_ | with_reducible refine zb_o3 ?_ | with_reducible refine zb_o4 ?_ | with_reducible refine zb_tr ?_ | exact trivial | with_reducible refine zb_T ?_ | with_reducible refine zb_sp ?_ ?_)
      rw [← e] at q
      exact q
    | succ n ih =>
      intro hn e
      rw [wX0_degreeOf_l5]
      rw [show (((n + 1 : Nat) : Int) - 1) = (n : Int) from by omega]
      try simp (disch := first | assumption | omega) only [zl32, zl64, i32_add, i32_sub, i32_mul, i32_neg, i64_add, i64_sub, i64_mul, i64_neg, cv_gi, cv_gw, cv_ga, cv_gl, cv_pi, cv_pw, cv_pa, cv_pl, zf_S, zf_i, zf_l, mz1, mz2, mz3, mz4, kn_haI, kn_haJ, kn_haQ, kn_gaI, kn_gaJ, kn_gaQ, kn_hoA, kn_hlen, kn_hfI, kn_hfJ, kn_hfR, kn_hfN, kn_hoI, kn_hoJ, kn_hoR, kn_hoN, kn_hoC, kn_hoP, kn_paI, kn_paJ, kn_paQ, kn_hpF, kuI_ha, kuI_ga, kuI_pa, kuI_hA, kuI_ln, kuB_ha, kuB_ga, kuB_pa, kuB_hA, kuB_ln, kuJ_ha, kuJ_ga, kuJ_pa, kuJ_hA, kuJ_ln, kuQ_ha, kuQ_ga, kuQ_pa, kuQ_hA, kuQ_ln, kuO_fI, kuO_fJ, kuO_fR, kuO_fN, kuO_oI, kuO_oJ, kuO_oR, kuO_oN, kuO_oC, kuO_oP, kuO_pF, kvI_s, kvJ_s, kvR_s, kvN_s, kvN_0, kvN_v, kpI_s, kpJ_s, kpR_s, kpN_s, kpN_0, kpN_v, List.getElem?_cons_zero, List.getElem?_cons_succ, List.set_cons_zero, List.set_cons_succ, List.length_cons, List.length_nil, forall_eq, exists_eq_left', Option.some.injEq, true_and, and_true, reduceIte, Nat.reduceEqDiff, Nat.reduceAdd, Nat.reduceLT, hup_hup, hup_at, eq_self, if_true, if_false, implies_true, true_implies, false_implies, not_true_eq_false, not_false_eq_true, or_true, true_or, i32_10, i32_01, kI_new, kB_new, kJ_new, kI_new2, kB_new2, kJ_new2, kQ_new, kO_new, zkd, zijd, zip1, zip, zim1, i32_natN, ziL, zi_0, zi_1, kI_ha ia, kI_ga ia, kI_pa ia, kI_hA ia, kI_ln ia]
      have r := hf n (by omega)
      rw [show degN f (n + 1) = if f n = 0 then degN f n else (n : Int) from rfl] at e
      repeat' (first | (exfalso; omega) | (with_reducible refine zb_in ?_ ?_ ?_ ?_; omega; omega; omega) | (with_reducible refine zb_le ?_ ?_ ?_ ?_ (fun _ => ?_) (fun _ => ?_); omega; omega; omega; omega) | (with_reducible refine zb_lt ?_ ?_ ?_ ?_ (fun _ => ?_) (fun _ => ?_); omega; omega; omega; omega) | (with_reducible refine zb_eq ?_ ?_ ?_ ?_ (fun _ => ?_) (fun _ => ?_); omega; omega; omega; omega) | (with_reducible refine zb_leL ?_ ?_ ?_ ?_ (fun _ => ?_) (fun _ => ?_); omega; omega; omega; omega) | (with_reducible refine zb_ltL ?_ ?_ ?_ ?_ (fun _ => ?_) (fun _ => ?_); omega; omega; omega; omega) | (with_reducible refine zb_eqL ?_ ?_ ?_ ?_ (fun _ => ?_) (fun _ => ?_); omega; omega; omega; omega) | (with_reducible refine zb_nz ?_ ?_ ?_ ?_; omega; omega; omega) | (with_reducible refine zb_nzL ?_ ?_ ?_ ?_; omega; omega; omega) | with_reducible refine zb_ite ?_ | with_reducible refine zb_iteL ?_ | ((with_reducible intro y hy); subst hy; try simp only [zl32, zl64, i32_add, i32_sub, i32_mul, i32_neg, i64_add, i64_sub, i64_mul, i64_neg, cv_gi, cv_gw, cv_ga, cv_gl, cv_pi, cv_pw, cv_pa, cv_pl, zf_S, zf_i, zf_l, mz1, mz2, mz3, mz4, zr_ii, zr_iw, zr_ia, zr_il, zr_wi, zr_ww, zr_wa, zr_wl, zr_ai, zr_aw, zr_aa, zr_al, zr_li, zr_lw, zr_la, zr_ll, zw_ii, zw_ww, zw_aa, zw_ll, reduceIte, Nat.reduceEqDiff, if_true, if_false]) | with_reducible refine zb_o1 ?_ | with_reducible refine zb_o2 ?_ | with_reducible refine zb_o3 ?_ | with_reducible refine zb_o4 ?_ | with_reducible refine zb_tr ?_ | exact trivial | with_reducible refine zb_T ?_ | with_reducible refine zb_sp ?_ ?_)
      · rw [if_pos (by assumption)] at e
        exact ih (by omega) e
      · rw [if_neg (by assumption)] at e
        rw [← e] at q
        exact q
  unfold wX0_degreeOf
  refine ⟨by rw [kI_hA ia]; trivial, 10, ?_⟩
  rw [kI_ln ia, show (Int32.ofNat 9 : Int32) - 1 = i32 (((9 : Nat) : Int) - 1) from by rw [i32_d]; rfl]
  exact L 9 (Nat.le_refl _) rfl
theorem kC_degJ {S : hH} {a : Nat} {f : Nat → Int} (ja : S a = some (kJ 9 f)) (hf : ∀ k, k < 9 → -9223372036854775808 ≤ f k ∧ f k < 9223372036854775808) (Q : Int32 → Prop) (q : Q (i32 (degN f 9))) : wX0_degreeOf_2 S a Q := by
  have L : ∀ n : Nat, n ≤ 9 → degN f n = degN f 9 → wX0_degreeOf_2_l5 Q S a (n + 1) (i32 ((n : Int) - 1)) := by
    intro n
    induction n with
    | zero =>
      intro _ e
      rw [wX0_degreeOf_2_l5]
      try simp only [zl32, zl64, i32_add, i32_sub, i32_mul, i32_neg, i64_add, i64_sub, i64_mul, i64_neg, cv_gi, cv_gw, cv_ga, cv_gl, cv_pi, cv_pw, cv_pa, cv_pl, zf_S, zf_i, zf_l, mz1, mz2, mz3, mz4]
      repeat' (first | (exfalso; omega) | (with_reducible refine zb_in ?_ ?_ ?_ ?_; omega; omega; omega) | (with_reducible refine zb_le ?_ ?_ ?_ ?_ (fun _ => ?_) (fun _ => ?_); omega; omega; omega; omega) | (with_reducible refine zb_lt ?_ ?_ ?_ ?_ (fun _ => ?_) (fun _ => ?_); omega; omega; omega; omega) | (with_reducible refine zb_eq ?_ ?_ ?_ ?_ (fun _ => ?_) (fun _ => ?_); omega; omega; omega; omega) | (with_reducible refine zb_leL ?_ ?_ ?_ ?_ (fun _ => ?_) (fun _ => ?_); omega; omega; omega; omega) | (with_reducible refine zb_ltL ?_ ?_ ?_ ?_ (fun _ => ?_) (fun _ => ?_); omega; omega; omega; omega) | (with_reducible refine zb_eqL ?_ ?_ ?_ ?_ (fun _ => ?_) (fun _ => ?_); omega; omega; omega; omega) | (with_reducible refine zb_nz ?_ ?_ ?_ ?_; omega; omega; omega) | (with_reducible refine zb_nzL ?_ ?_ ?_ ?_; omega; omega; omega) | with_reducible refine zb_ite ?_ | with_reducible refine zb_iteL ?_ | ((with_reducible intro y hy); subst hy; try simp only [zl32, zl64, i32_add, i32_sub, i32_mul, i32_neg, i64_add, i64_sub, i64_mul, i64_neg, cv_gi, cv_gw, cv_ga, cv_gl, cv_pi, cv_pw, cv_pa, cv_pl, zf_S, zf_i, zf_l, mz1, mz2, mz3, mz4, zr_ii, zr_iw, zr_ia, zr_il, zr_wi, zr_ww, zr_wa, zr_wl, zr_ai, zr_aw, zr_aa, zr_al, zr_li, zr_lw, zr_la, zr_ll, zw_ii, zw_ww, zw_aa, zw_ll, reduceIte, Nat.reduceEqDiff, if_true, if_false]) | with_reducible refine zb_o1 ?_ | with_reducible refine zb_o2 ?_ | with_reducible refine zb_o3 ?_ | with_reducible refine zb_o4 ?_ | with_reducible refine zb_tr ?_ | exact trivial | with_reducible refine zb_T ?_ | with_reducible refine zb_sp ?_ ?_)
      rw [← e] at q
      exact q
    | succ n ih =>
      intro hn e
      rw [wX0_degreeOf_2_l5]
      rw [show (((n + 1 : Nat) : Int) - 1) = (n : Int) from by omega]
      try simp (disch := first | assumption | omega) only [zl32, zl64, i32_add, i32_sub, i32_mul, i32_neg, i64_add, i64_sub, i64_mul, i64_neg, cv_gi, cv_gw, cv_ga, cv_gl, cv_pi, cv_pw, cv_pa, cv_pl, zf_S, zf_i, zf_l, mz1, mz2, mz3, mz4, kn_haI, kn_haJ, kn_haQ, kn_gaI, kn_gaJ, kn_gaQ, kn_hoA, kn_hlen, kn_hfI, kn_hfJ, kn_hfR, kn_hfN, kn_hoI, kn_hoJ, kn_hoR, kn_hoN, kn_hoC, kn_hoP, kn_paI, kn_paJ, kn_paQ, kn_hpF, kuI_ha, kuI_ga, kuI_pa, kuI_hA, kuI_ln, kuB_ha, kuB_ga, kuB_pa, kuB_hA, kuB_ln, kuJ_ha, kuJ_ga, kuJ_pa, kuJ_hA, kuJ_ln, kuQ_ha, kuQ_ga, kuQ_pa, kuQ_hA, kuQ_ln, kuO_fI, kuO_fJ, kuO_fR, kuO_fN, kuO_oI, kuO_oJ, kuO_oR, kuO_oN, kuO_oC, kuO_oP, kuO_pF, kvI_s, kvJ_s, kvR_s, kvN_s, kvN_0, kvN_v, kpI_s, kpJ_s, kpR_s, kpN_s, kpN_0, kpN_v, List.getElem?_cons_zero, List.getElem?_cons_succ, List.set_cons_zero, List.set_cons_succ, List.length_cons, List.length_nil, forall_eq, exists_eq_left', Option.some.injEq, true_and, and_true, reduceIte, Nat.reduceEqDiff, Nat.reduceAdd, Nat.reduceLT, hup_hup, hup_at, eq_self, if_true, if_false, implies_true, true_implies, false_implies, not_true_eq_false, not_false_eq_true, or_true, true_or, i32_10, i32_01, kI_new, kB_new, kJ_new, kI_new2, kB_new2, kJ_new2, kQ_new, kO_new, zkd, zijd, zip1, zip, zim1, i32_natN, ziL, zi_0, zi_1, kJ_ha ja, kJ_ga ja, kJ_pa ja, kJ_hA ja, kJ_ln ja]
      have r := hf n (by omega)
      rw [show degN f (n + 1) = if f n = 0 then degN f n else (n : Int) from rfl] at e
      repeat' (first | (exfalso; omega) | (with_reducible refine zb_in ?_ ?_ ?_ ?_; omega; omega; omega) | (with_reducible refine zb_le ?_ ?_ ?_ ?_ (fun _ => ?_) (fun _ => ?_); omega; omega; omega; omega) | (with_reducible refine zb_lt ?_ ?_ ?_ ?_ (fun _ => ?_) (fun _ => ?_); omega; omega; omega; omega) | (with_reducible refine zb_eq ?_ ?_ ?_ ?_ (fun _ => ?_) (fun _ => ?_); omega; omega; omega; omega) | (with_reducible refine zb_leL ?_ ?_ ?_ ?_ (fun _ => ?_) (fun _ => ?_); omega; omega; omega; omega) | (with_reducible refine zb_ltL ?_ ?_ ?_ ?_ (fun _ => ?_) (fun _ => ?_); omega; omega; omega; omega) | (with_reducible refine zb_eqL ?_ ?_ ?_ ?_ (fun _ => ?_) (fun _ => ?_); omega; omega; omega; omega) | (with_reducible refine zb_nz ?_ ?_ ?_ ?_; omega; omega; omega) | (with_reducible refine zb_nzL ?_ ?_ ?_ ?_; omega; omega; omega) | with_reducible refine zb_ite ?_ | with_reducible refine zb_iteL ?_ | ((with_reducible intro y hy); subst hy; try simp only [zl32, zl64, i32_add, i32_sub, i32_mul, i32_neg, i64_add, i64_sub, i64_mul, i64_neg, cv_gi, cv_gw, cv_ga, cv_gl, cv_pi, cv_pw, cv_pa, cv_pl, zf_S, zf_i, zf_l, mz1, mz2, mz3, mz4, zr_ii, zr_iw, zr_ia, zr_il, zr_wi, zr_ww, zr_wa, zr_wl, zr_ai, zr_aw, zr_aa, zr_al, zr_li, zr_lw, zr_la, zr_ll, zw_ii, zw_ww, zw_aa, zw_ll, reduceIte, Nat.reduceEqDiff, if_true, if_false]) | with_reducible refine zb_o1 ?_ | with_reducible refine zb_o2 ?_ | with_reducible refine zb_o3 ?_ | with_reducible refine zb_o4 ?_ | with_reducible refine zb_tr ?_ | exact trivial | with_reducible refine zb_T ?_ | with_reducible refine zb_sp ?_ ?_)
      · rw [if_pos (by assumption)] at e
        exact ih (by omega) e
      · rw [if_neg (by assumption)] at e
        rw [← e] at q
        exact q
  unfold wX0_degreeOf_2
  refine ⟨by rw [kJ_hA ja]; trivial, 10, ?_⟩
  rw [kJ_ln ja, show (Int32.ofNat 9 : Int32) - 1 = i32 (((9 : Nat) : Int) - 1) from by rw [i32_d]; rfl]
  exact L 9 (Nat.le_refl _) rfl
theorem kC_toldDegree {S : hH} {a : Nat} {f : Nat → Int} (ia : S a = some (kI 9 f)) (hf : ∀ k, k < 9 → -2147483648 ≤ f k ∧ f k < 2147483648) (Q : Int32 → Prop) (q : Q (i32 (ztold (degN f 9)))) : wX0_toldDegree S a Q := by
  unfold wX0_toldDegree
  refine kC_degreeOf ia hf _ ?_
  have := degN_lt f 9
  unfold ztold at q
  try simp only [zl32, zl64, i32_add, i32_sub, i32_mul, i32_neg, i64_add, i64_sub, i64_mul, i64_neg, cv_gi, cv_gw, cv_ga, cv_gl, cv_pi, cv_pw, cv_pa, cv_pl, zf_S, zf_i, zf_l, mz1, mz2, mz3, mz4]
  repeat' (first | (exfalso; omega) | (with_reducible refine zb_in ?_ ?_ ?_ ?_; omega; omega; omega) | (with_reducible refine zb_le ?_ ?_ ?_ ?_ (fun _ => ?_) (fun _ => ?_); omega; omega; omega; omega) | (with_reducible refine zb_lt ?_ ?_ ?_ ?_ (fun _ => ?_) (fun _ => ?_); omega; omega; omega; omega) | (with_reducible refine zb_eq ?_ ?_ ?_ ?_ (fun _ => ?_) (fun _ => ?_); omega; omega; omega; omega) | (with_reducible refine zb_leL ?_ ?_ ?_ ?_ (fun _ => ?_) (fun _ => ?_); omega; omega; omega; omega) | (with_reducible refine zb_ltL ?_ ?_ ?_ ?_ (fun _ => ?_) (fun _ => ?_); omega; omega; omega; omega) | (with_reducible refine zb_eqL ?_ ?_ ?_ ?_ (fun _ => ?_) (fun _ => ?_); omega; omega; omega; omega) | (with_reducible refine zb_nz ?_ ?_ ?_ ?_; omega; omega; omega) | (with_reducible refine zb_nzL ?_ ?_ ?_ ?_; omega; omega; omega) | with_reducible refine zb_ite ?_ | with_reducible refine zb_iteL ?_ | ((with_reducible intro y hy); subst hy; try simp only [zl32, zl64, i32_add, i32_sub, i32_mul, i32_neg, i64_add, i64_sub, i64_mul, i64_neg, cv_gi, cv_gw, cv_ga, cv_gl, cv_pi, cv_pw, cv_pa, cv_pl, zf_S, zf_i, zf_l, mz1, mz2, mz3, mz4, zr_ii, zr_iw, zr_ia, zr_il, zr_wi, zr_ww, zr_wa, zr_wl, zr_ai, zr_aw, zr_aa, zr_al, zr_li, zr_lw, zr_la, zr_ll, zw_ii, zw_ww, zw_aa, zw_ll, reduceIte, Nat.reduceEqDiff, if_true, if_false]) | with_reducible refine zb_o1 ?_ | with_reducible refine zb_o2 ?_ | with_reducible refine zb_o3 ?_ | with_reducible refine zb_o4 ?_ | with_reducible refine zb_tr ?_ | exact trivial | with_reducible refine zb_T ?_ | with_reducible refine zb_sp ?_ ?_)
  · rw [if_pos (by assumption)] at q
    exact q
  · rw [if_neg (by assumption)] at q
    exact q
theorem kC_isMonic {S : hH} {a : Nat} {f : Nat → Int} (ia : S a = some (kI 9 f)) (hf : ∀ k, k < 9 → -2147483648 ≤ f k ∧ f k < 2147483648) (Q : Int32 → Prop) (h1 : zmon f → Q (i32 1)) (h0 : ¬ zmon f → Q (i32 0)) : wX0_isMonic S a Q := by
  unfold wX0_isMonic
  refine kC_degreeOf ia hf _ ?_
  have hd := degN_lt f 9
  generalize hD : degN f 9 = D at *
  have hz : ∀ P : Prop, (zmon f ↔ (0 < D ∧ f D.toNat = 1)) := fun _ => by unfold zmon; rw [hD]
  by_cases hp : D ≤ 0
  · refine ⟨⟨fun _ => trivial, fun e => absurd ((i32_le (by omega) (by omega) (by omega) (by omega)).mpr hp) (by rw [i32_0] at e; exact e)⟩, ?_⟩
    rw [if_pos (by rw [i32_0]; exact (i32_le (by omega) (by omega) (by omega) (by omega)).mpr hp)]
    try simp only [zl32, zl64, i32_add, i32_sub, i32_mul, i32_neg, i64_add, i64_sub, i64_mul, i64_neg, cv_gi, cv_gw, cv_ga, cv_gl, cv_pi, cv_pw, cv_pa, cv_pl, zf_S, zf_i, zf_l, mz1, mz2, mz3, mz4]
    refine ⟨Or.inl trivial, h0 (fun e => ?_)⟩
    have := (hz True).mp e
    omega
  · obtain ⟨d, rfl⟩ : ∃ d : Nat, D = d := ⟨D.toNat, by omega⟩
    have hr := hf d (by omega)
    rw [Int.toNat_natCast] at hz
    refine ⟨⟨fun _ => trivial, fun e => ⟨?_, trivial⟩⟩, ?_⟩
    · rw [kI_ha ia]
      exact i32_in (by omega) (by omega) (by omega)
    · rw [if_neg (by rw [i32_0]; exact fun e => hp ((i32_le (by omega) (by omega) (by omega) (by omega)).mp e)), i32_natN (by omega), kI_ga ia (by omega)]
      try simp only [zl32, zl64, i32_add, i32_sub, i32_mul, i32_neg, i64_add, i64_sub, i64_mul, i64_neg, cv_gi, cv_gw, cv_ga, cv_gl, cv_pi, cv_pw, cv_pa, cv_pl, zf_S, zf_i, zf_l, mz1, mz2, mz3, mz4]
      repeat' (first | (exfalso; omega) | (with_reducible refine zb_in ?_ ?_ ?_ ?_; omega; omega; omega) | (with_reducible refine zb_le ?_ ?_ ?_ ?_ (fun _ => ?_) (fun _ => ?_); omega; omega; omega; omega) | (with_reducible refine zb_lt ?_ ?_ ?_ ?_ (fun _ => ?_) (fun _ => ?_); omega; omega; omega; omega) | (with_reducible refine zb_eq ?_ ?_ ?_ ?_ (fun _ => ?_) (fun _ => ?_); omega; omega; omega; omega) | (with_reducible refine zb_leL ?_ ?_ ?_ ?_ (fun _ => ?_) (fun _ => ?_); omega; omega; omega; omega) | (with_reducible refine zb_ltL ?_ ?_ ?_ ?_ (fun _ => ?_) (fun _ => ?_); omega; omega; omega; omega) | (with_reducible refine zb_eqL ?_ ?_ ?_ ?_ (fun _ => ?_) (fun _ => ?_); omega; omega; omega; omega) | (with_reducible refine zb_nz ?_ ?_ ?_ ?_; omega; omega; omega) | (with_reducible refine zb_nzL ?_ ?_ ?_ ?_; omega; omega; omega) | with_reducible refine zb_ite ?_ | with_reducible refine zb_iteL ?_ | ((with_reducible intro y hy); subst hy; try simp only [zl32, zl64, i32_add, i32_sub, i32_mul, i32_neg, i64_add, i64_sub, i64_mul, i64_neg, cv_gi, cv_gw, cv_ga, cv_gl, cv_pi, cv_pw, cv_pa, cv_pl, zf_S, zf_i, zf_l, mz1, mz2, mz3, mz4, zr_ii, zr_iw, zr_ia, zr_il, zr_wi, zr_ww, zr_wa, zr_wl, zr_ai, zr_aw, zr_aa, zr_al, zr_li, zr_lw, zr_la, zr_ll, zw_ii, zw_ww, zw_aa, zw_ll, reduceIte, Nat.reduceEqDiff, if_true, if_false]) | with_reducible refine zb_o1 ?_ | with_reducible refine zb_o2 ?_ | with_reducible refine zb_o3 ?_ | with_reducible refine zb_o4 ?_ | with_reducible refine zb_tr ?_ | exact trivial | with_reducible refine zb_T ?_ | with_reducible refine zb_sp ?_ ?_)
      · rename_i e
        refine h1 ((hz True).mpr ⟨by omega, ?_⟩)
        assumption
      · refine h0 (fun e => ?_)
        have := (hz True).mp e
        omega
