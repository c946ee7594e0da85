/-! PURE 49: the model's reader from its start -/
set_option maxRecDepth 100000
noncomputable def zall (tp : Nat → Int) (n : Nat) (F : Nat → Int) : Bool × Nat × (Nat → Int) :=
  if (zterm tp n (if zhr0 tp n 0 = 45 then 1 else 0)).1 < 0 then (false, (zterm tp n (if zhr0 tp n 0 = 45 then 1 else 0)).2.2, F)
  else zrds tp n 100 true (zterm tp n (if zhr0 tp n 0 = 45 then 1 else 0)).2.2 (zup F (zterm tp n (if zhr0 tp n 0 = 45 then 1 else 0)).1.toNat (F (zterm tp n (if zhr0 tp n 0 = 45 then 1 else 0)).1.toNat + (if zhr0 tp n 0 = 45 then -1 else 1) * (zterm tp n (if zhr0 tp n 0 = 45 then 1 else 0)).2.1))
theorem sM_readsAll (t : tS) (n : Nat) (h : zTP t n) (Q : Int32 → mS → Prop) (F : Nat → Int) (hF : F = zov 9 (fun _ => 0) (tgl t 7)) (hq : (zall (tga t 4) n F).2.1 ≤ n → Q (i32 (if (zall (tga t 4) n F).1 = true ∧ (zall (tga t 4) n F).2.1 = n then 1 else 0)) (cv (zru t (zall (tga t 4) n F).2.1 (zall (tga t 4) n F).2.2))) : wM_readsAll (cv t) Q := by
  -- the first term
  have G : ∀ (a : Nat) (sg : Int), a ≤ n → a = (if zhr0 (tga t 4) n 0 = 45 then 1 else 0) → sg = (if zhr0 (tga t 4) n 0 = 45 then -1 else 1) → wM_readsTerm (cv (zru t a F)) (i32 sg) (fun r43 σ43 => ∃ k47 : Nat, wM_readsAll_l47 Q k47 σ43 r43) := by
    intro a sg ha e1 e2
    have hsg1 : sg = 1 ∨ sg = -1 := by
      rw [e2]
      by_cases q : zhr0 (tga t 4) n 0 = 45
      · rw [if_pos q]; exact Or.inr rfl
      · rw [if_neg q]; exact Or.inl rfl
    unfold zall at hq
    rw [← e1, ← e2] at hq
    have hn := h.2.1
    refine sM_readsTerm (zru t a F) n a (zru_rd h ha F) sg hsg1 _ (fun r0 rr => ?_) (fun r0 rr => ?_)
    · have r0 : (zterm (tga t 4) n a).1 < 0 := r0
      have rb : (zterm (tga t 4) n a).2.2 ≤ n := rr.2.2
      rw [if_pos r0] at hq
      rw [zru_i]
      have e := sM_readsL t n h Q 100 false (zterm (tga t 4) n a).2.2 F rb (by omega) (fun _ => by
        have ez : zrds (tga t 4) n 100 false (zterm (tga t 4) n a).2.2 F = (false, (zterm (tga t 4) n a).2.2, F) := by
          unfold zrds
          rw [if_pos rfl]
        rw [ez]
        exact hq rb)
      rw [if_neg (show ¬ (false = true) by decide)] at e
      exact ⟨_, e⟩
    · have r0 : 0 ≤ (zterm (tga t 4) n a).1 := r0
      have rb : (zterm (tga t 4) n a).2.2 ≤ n := rr.2.2
      rw [if_neg (by omega)] at hq
      have e := sM_readsL t n h Q 100 true (zterm (tga t 4) n a).2.2 _ rb (by omega) hq
      rw [if_pos rfl] at e
      have ex := zru_l t a (zterm (tga t 4) n a).2.2 F (zup F (zterm (tga t 4) n a).1.toNat (F (zterm (tga t 4) n a).1.toNat + sg * (zterm (tga t 4) n a).2.1))
      rw [← ex] at e
      exact ⟨_, e⟩
  have L : ∀ m k : Nat, k + m = 9 → wM_readsAll_l7 Q (m + 1) (cv (tsl (tpi t 6 0) 7 (zov k (fun _ => 0) (tgl t 7)))) (i32 k) := by
    intro m
    induction m with
    | zero =>
      intro k hk
      have hk : k = 9 := by omega
      subst hk
      rw [wM_readsAll_l7, ← hF]
      try simp only [zl32, zl64, i32_add, i32_sub, i32_mul, i32_neg, i64_add, i64_sub, i64_mul, i64_neg, cv_gi, cv_gw, cv_ga, cv_gl, cv_pi, cv_pw, cv_pa, cv_pl, zf_S, zf_i, zf_l, mz1, mz2, mz3, mz4]
      repeat' (first | (exfalso; omega) | (with_reducible refine zb_in ?_ ?_ ?_ ?_; omega; omega; omega) | (with_reducible refine zb_le ?_ ?_ ?_ ?_ (fun _ => ?_) (fun _ => ?_); omega; omega; omega; omega) | (with_reducible refine zb_lt ?_ ?_ ?_ ?_ (fun _ => ?_) (fun _ => ?_); omega; omega; omega; omega) | (with_reducible refine zb_eq ?_ ?_ ?_ ?_ (fun _ => ?_) (fun _ => ?_); omega; omega; omega; omega) | (with_reducible refine zb_leL ?_ ?_ ?_ ?_ (fun _ => ?_) (fun _ => ?_); omega; omega; omega; omega) | (with_reducible refine zb_ltL ?_ ?_ ?_ ?_ (fun _ => ?_) (fun _ => ?_); omega; omega; omega; omega) | (with_reducible refine zb_eqL ?_ ?_ ?_ ?_ (fun _ => ?_) (fun _ => ?_); omega; omega; omega; omega) | (with_reducible refine zb_nz ?_ ?_ ?_ ?_; omega; omega; omega) | (with_reducible refine zb_nzL ?_ ?_ ?_ ?_; omega; omega; omega) | with_reducible refine zb_ite ?_ | with_reducible refine zb_iteL ?_ | ((with_reducible intro y hy); subst hy; try simp only [zl32, zl64, i32_add, i32_sub, i32_mul, i32_neg, i64_add, i64_sub, i64_mul, i64_neg, cv_gi, cv_gw, cv_ga, cv_gl, cv_pi, cv_pw, cv_pa, cv_pl, zf_S, zf_i, zf_l, mz1, mz2, mz3, mz4, zr_ii, zr_iw, zr_ia, zr_il, zr_wi, zr_ww, zr_wa, zr_wl, zr_ai, zr_aw, zr_aa, zr_al, zr_li, zr_lw, zr_la, zr_ll, zw_ii, zw_ww, zw_aa, zw_ll, reduceIte, Nat.reduceEqDiff, if_true, if_false]) | with_reducible refine zb_o1 ?_ | with_reducible refine zb_o2 ?_ | with_reducible refine zb_o3 ?_ | with_reducible refine zb_o4 ?_ | with_reducible refine zb_tr ?_ | exact trivial | with_reducible refine zb_T ?_ | with_reducible refine zb_sp ?_ ?_)
      rw [show tsl (tpi t 6 0) 7 F = zru t 0 F from rfl]
      refine sM_takes _ n 0 (zru_rd h (Nat.zero_le _) F) 45 (by omega) _ (fun c => ?_) (fun c => ?_)
      · have c : zhr0 (tga t 4) n 0 = 45 := c
        have l0 := zhr0_lt (t := t) (n := n) (a := 0) (by omega)
        try simp only [zl32, zl64, i32_add, i32_sub, i32_mul, i32_neg, i64_add, i64_sub, i64_mul, i64_neg, cv_gi, cv_gw, cv_ga, cv_gl, cv_pi, cv_pw, cv_pa, cv_pl, zf_S, zf_i, zf_l, mz1, mz2, mz3, mz4]
        repeat' (first | (exfalso; omega) | (with_reducible refine zb_in ?_ ?_ ?_ ?_; omega; omega; omega) | (with_reducible refine zb_le ?_ ?_ ?_ ?_ (fun _ => ?_) (fun _ => ?_); omega; omega; omega; omega) | (with_reducible refine zb_lt ?_ ?_ ?_ ?_ (fun _ => ?_) (fun _ => ?_); omega; omega; omega; omega) | (with_reducible refine zb_eq ?_ ?_ ?_ ?_ (fun _ => ?_) (fun _ => ?_); omega; omega; omega; omega) | (with_reducible refine zb_leL ?_ ?_ ?_ ?_ (fun _ => ?_) (fun _ => ?_); omega; omega; omega; omega) | (with_reducible refine zb_ltL ?_ ?_ ?_ ?_ (fun _ => ?_) (fun _ => ?_); omega; omega; omega; omega) | (with_reducible refine zb_eqL ?_ ?_ ?_ ?_ (fun _ => ?_) (fun _ => ?_); omega; omega; omega; omega) | (with_reducible refine zb_nz ?_ ?_ ?_ ?_; omega; omega; omega) | (with_reducible refine zb_nzL ?_ ?_ ?_ ?_; omega; omega; omega) | with_reducible refine zb_ite ?_ | with_reducible refine zb_iteL ?_ | ((with_reducible intro y hy); subst hy; try simp only [zl32, zl64, i32_add, i32_sub, i32_mul, i32_neg, i64_add, i64_sub, i64_mul, i64_neg, cv_gi, cv_gw, cv_ga, cv_gl, cv_pi, cv_pw, cv_pa, cv_pl, zf_S, zf_i, zf_l, mz1, mz2, mz3, mz4, zr_ii, zr_iw, zr_ia, zr_il, zr_wi, zr_ww, zr_wa, zr_wl, zr_ai, zr_aw, zr_aa, zr_al, zr_li, zr_lw, zr_la, zr_ll, zw_ii, zw_ww, zw_aa, zw_ll, reduceIte, Nat.reduceEqDiff, if_true, if_false]) | with_reducible refine zb_o1 ?_ | with_reducible refine zb_o2 ?_ | with_reducible refine zb_o3 ?_ | with_reducible refine zb_o4 ?_ | with_reducible refine zb_tr ?_ | exact trivial | with_reducible refine zb_T ?_ | with_reducible refine zb_sp ?_ ?_)
        rw [show tpi (zru t 0 F) 6 (((0 : Nat) : Int) + 1) = zru t 1 F from zru_i t 0 1 F]
        exact G 1 (-1) l0 (by rw [if_pos c]) (by rw [if_pos c])
      · have c : ¬ zhr0 (tga t 4) n 0 = 45 := c
        try simp only [zl32, zl64, i32_add, i32_sub, i32_mul, i32_neg, i64_add, i64_sub, i64_mul, i64_neg, cv_gi, cv_gw, cv_ga, cv_gl, cv_pi, cv_pw, cv_pa, cv_pl, zf_S, zf_i, zf_l, mz1, mz2, mz3, mz4]
        repeat' (first | (exfalso; omega) | (with_reducible refine zb_in ?_ ?_ ?_ ?_; omega; omega; omega) | (with_reducible refine zb_le ?_ ?_ ?_ ?_ (fun _ => ?_) (fun _ => ?_); omega; omega; omega; omega) | (with_reducible refine zb_lt ?_ ?_ ?_ ?_ (fun _ => ?_) (fun _ => ?_); omega; omega; omega; omega) | (with_reducible refine zb_eq ?_ ?_ ?_ ?_ (fun _ => ?_) (fun _ => ?_); omega; omega; omega; omega) | (with_reducible refine zb_leL ?_ ?_ ?_ ?_ (fun _ => ?_) (fun _ => ?_); omega; omega; omega; omega) | (with_reducible refine zb_ltL ?_ ?_ ?_ ?_ (fun _ => ?_) (fun _ => ?_); omega; omega; omega; omega) | (with_reducible refine zb_eqL ?_ ?_ ?_ ?_ (fun _ => ?_) (fun _ => ?_); omega; omega; omega; omega) | (with_reducible refine zb_nz ?_ ?_ ?_ ?_; omega; omega; omega) | (with_reducible refine zb_nzL ?_ ?_ ?_ ?_; omega; omega; omega) | with_reducible refine zb_ite ?_ | with_reducible refine zb_iteL ?_ | ((with_reducible intro y hy); subst hy; try simp only [zl32, zl64, i32_add, i32_sub, i32_mul, i32_neg, i64_add, i64_sub, i64_mul, i64_neg, cv_gi, cv_gw, cv_ga, cv_gl, cv_pi, cv_pw, cv_pa, cv_pl, zf_S, zf_i, zf_l, mz1, mz2, mz3, mz4, zr_ii, zr_iw, zr_ia, zr_il, zr_wi, zr_ww, zr_wa, zr_wl, zr_ai, zr_aw, zr_aa, zr_al, zr_li, zr_lw, zr_la, zr_ll, zw_ii, zw_ww, zw_aa, zw_ll, reduceIte, Nat.reduceEqDiff, if_true, if_false]) | with_reducible refine zb_o1 ?_ | with_reducible refine zb_o2 ?_ | with_reducible refine zb_o3 ?_ | with_reducible refine zb_o4 ?_ | with_reducible refine zb_tr ?_ | exact trivial | with_reducible refine zb_T ?_ | with_reducible refine zb_sp ?_ ?_)
        rw [zru_i]
        exact G 0 1 (Nat.zero_le _) (by rw [if_neg c]) (by rw [if_neg c])
    | succ m ih =>
      intro k hk
      have e := ih (k + 1) (by omega)
      rw [← zov_s] at e
      rw [wM_readsAll_l7]
      try simp only [zl32, zl64, i32_add, i32_sub, i32_mul, i32_neg, i64_add, i64_sub, i64_mul, i64_neg, cv_gi, cv_gw, cv_ga, cv_gl, cv_pi, cv_pw, cv_pa, cv_pl, zf_S, zf_i, zf_l, mz1, mz2, mz3, mz4, zr_ii, zr_iw, zr_ia, zr_il, zr_wi, zr_ww, zr_wa, zr_wl, zr_ai, zr_aw, zr_aa, zr_al, zr_li, zr_lw, zr_la, zr_ll, zw_ii, zw_ww, zw_aa, zw_ll, reduceIte, Nat.reduceEqDiff, if_true, if_false]
      try simp (disch := omega) only [zi9, zi7, zi40, zi360, zikj, zijd, zi9o, zi7o, zip1, zip, zim1, i32_natN, ziL, zi_0, zi_1]
      repeat' (first | (exfalso; omega) | (with_reducible refine zb_in ?_ ?_ ?_ ?_; omega; omega; omega) | (with_reducible refine zb_le ?_ ?_ ?_ ?_ (fun _ => ?_) (fun _ => ?_); omega; omega; omega; omega) | (with_reducible refine zb_lt ?_ ?_ ?_ ?_ (fun _ => ?_) (fun _ => ?_); omega; omega; omega; omega) | (with_reducible refine zb_eq ?_ ?_ ?_ ?_ (fun _ => ?_) (fun _ => ?_); omega; omega; omega; omega) | (with_reducible refine zb_leL ?_ ?_ ?_ ?_ (fun _ => ?_) (fun _ => ?_); omega; omega; omega; omega) | (with_reducible refine zb_ltL ?_ ?_ ?_ ?_ (fun _ => ?_) (fun _ => ?_); omega; omega; omega; omega) | (with_reducible refine zb_eqL ?_ ?_ ?_ ?_ (fun _ => ?_) (fun _ => ?_); omega; omega; omega; omega) | (with_reducible refine zb_nz ?_ ?_ ?_ ?_; omega; omega; omega) | (with_reducible refine zb_nzL ?_ ?_ ?_ ?_; omega; omega; omega) | with_reducible refine zb_ite ?_ | with_reducible refine zb_iteL ?_ | ((with_reducible intro y hy); subst hy; try simp only [zl32, zl64, i32_add, i32_sub, i32_mul, i32_neg, i64_add, i64_sub, i64_mul, i64_neg, cv_gi, cv_gw, cv_ga, cv_gl, cv_pi, cv_pw, cv_pa, cv_pl, zf_S, zf_i, zf_l, mz1, mz2, mz3, mz4, zr_ii, zr_iw, zr_ia, zr_il, zr_wi, zr_ww, zr_wa, zr_wl, zr_ai, zr_aw, zr_aa, zr_al, zr_li, zr_lw, zr_la, zr_ll, zw_ii, zw_ww, zw_aa, zw_ll, reduceIte, Nat.reduceEqDiff, if_true, if_false]) | with_reducible refine zb_o1 ?_ | with_reducible refine zb_o2 ?_ | with_reducible refine zb_o3 ?_ | with_reducible refine zb_o4 ?_ | with_reducible refine zb_tr ?_ | exact trivial | with_reducible refine zb_T ?_ | with_reducible refine zb_sp ?_ ?_)
      exact e
  unfold wM_readsAll
  try simp only [zl32, zl64, i32_add, i32_sub, i32_mul, i32_neg, i64_add, i64_sub, i64_mul, i64_neg, cv_gi, cv_gw, cv_ga, cv_gl, cv_pi, cv_pw, cv_pa, cv_pl, zf_S, zf_i, zf_l, mz1, mz2, mz3, mz4]
  have e := L 9 0 rfl
  rw [zov_0, show tsl (tpi t 6 0) 7 (tgl t 7) = tpi t 6 0 from zw_l0 (tpi t 6 0) 7] at e
  exact ⟨10, e⟩
