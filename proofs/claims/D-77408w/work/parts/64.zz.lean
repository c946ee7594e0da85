/-! PURE 35: the model spells; the model's grow -/
set_option maxRecDepth 100000
theorem znum_len (v : Int) : 1 ≤ (znum v).length ∧ (znum v).length ≤ 2 := by
  unfold znum
  by_cases c : v ≤ 9
  · rw [if_pos c]; exact ⟨Nat.le_refl 1, by show 1 ≤ 2; omega⟩
  · rw [if_neg c]; exact ⟨by show 1 ≤ 2; omega, Nat.le_refl 2⟩
theorem zsp1_len {x : zL} (h : zlok x) : 1 ≤ (zsp1 x).length ∧ (zsp1 x).length ≤ 9 := by
  have a := znum_len x.2.1
  have b := znum_len x.2.2.1
  have c := znum_len x.2.2.2.1
  obtain ⟨h1, h2, _⟩ := h
  unfold zsp1
  rw [List.length_append, List.length_append, List.length_replicate]
  have e : 0 ≤ (if x.1 = 1 then [33] else ([] : List Int)).length ∧ (if x.1 = 1 then [33] else ([] : List Int)).length ≤ 1 := by
    by_cases q : x.1 = 1
    · rw [if_pos q]; exact ⟨by decide, by decide⟩
    · rw [if_neg q]; exact ⟨by decide, by decide⟩
  by_cases q : x.1 < 2
  · rw [if_pos q, List.length_append, List.length_append, List.length_singleton]
    omega
  · rw [if_neg q]
    omega
theorem sM_spellsAll (t : tS) (ls : List zL) (hls : zLA t ls) (hl : ls.length ≤ 8) (hok : ∀ l, l ∈ ls → zlok l) (Q : mS → Prop) (hq : ∀ u, zfr [63] [62] [] t u → zSpl u (zspell ls) → Q (cv u)) : wM_spellsAll (cv t) Q := by
  have h23 := hls.1
  have S : ∀ (xs pre : List zL), ls = pre ++ xs → ∀ (acc : List Int) (u : tS), zfr [63] [62] [] t u → zSpl u acc → (acc = [] ↔ pre = []) → acc.length ≤ 10 * pre.length → zspw xs acc = zspell ls → wM_spellsAll_l7 Q (xs.length + 1) (cv u) (i32 pre.length) := by
    intro xs
    induction xs with
    | nil =>
      intro pre he acc u hu hs hn hlen hsp
      rw [List.append_nil] at he
      have e23 : tgi u 23 = (pre.length : Int) := by rw [hu.i 23 (by decide), h23, he]
      have hpl : pre.length ≤ 8 := by rw [← he]; exact hl
      rw [show ([] : List zL).length = 0 from rfl, wM_spellsAll_l7]
      try simp only [zl32, zl64, i32_add, i32_sub, i32_mul, i32_neg, i64_add, i64_sub, i64_mul, i64_neg, cv_gi, cv_gw, cv_ga, cv_gl, cv_pi, cv_pw, cv_pa, cv_pl, zf_S, zf_i, zf_l, mz1, mz2, mz3, mz4]
      rw [e23]
      repeat' (first | (exfalso; omega) | (with_reducible refine zb_in ?_ ?_ ?_ ?_; omega; omega; omega) | (with_reducible refine zb_le ?_ ?_ ?_ ?_ (fun _ => ?_) (fun _ => ?_); omega; omega; omega; omega) | (with_reducible refine zb_lt ?_ ?_ ?_ ?_ (fun _ => ?_) (fun _ => ?_); omega; omega; omega; omega) | (with_reducible refine zb_eq ?_ ?_ ?_ ?_ (fun _ => ?_) (fun _ => ?_); omega; omega; omega; omega) | (with_reducible refine zb_leL ?_ ?_ ?_ ?_ (fun _ => ?_) (fun _ => ?_); omega; omega; omega; omega) | (with_reducible refine zb_ltL ?_ ?_ ?_ ?_ (fun _ => ?_) (fun _ => ?_); omega; omega; omega; omega) | (with_reducible refine zb_eqL ?_ ?_ ?_ ?_ (fun _ => ?_) (fun _ => ?_); omega; omega; omega; omega) | (with_reducible refine zb_nz ?_ ?_ ?_ ?_; omega; omega; omega) | (with_reducible refine zb_nzL ?_ ?_ ?_ ?_; omega; omega; omega) | with_reducible refine zb_ite ?_ | with_reducible refine zb_iteL ?_ | ((with_reducible intro y hy); subst hy; try simp only [zl32, zl64, i32_add, i32_sub, i32_mul, i32_neg, i64_add, i64_sub, i64_mul, i64_neg, cv_gi, cv_gw, cv_ga, cv_gl, cv_pi, cv_pw, cv_pa, cv_pl, zf_S, zf_i, zf_l, mz1, mz2, mz3, mz4, zr_ii, zr_iw, zr_ia, zr_il, zr_wi, zr_ww, zr_wa, zr_wl, zr_ai, zr_aw, zr_aa, zr_al, zr_li, zr_lw, zr_la, zr_ll, zw_ii, zw_ww, zw_aa, zw_ll, reduceIte, Nat.reduceEqDiff, if_true, if_false]) | with_reducible refine zb_o1 ?_ | with_reducible refine zb_o2 ?_ | with_reducible refine zb_o3 ?_ | with_reducible refine zb_o4 ?_ | with_reducible refine zb_tr ?_ | exact trivial | with_reducible refine zb_T ?_ | with_reducible refine zb_sp ?_ ?_)
      refine hq u hu ?_
      rw [← hsp]
      exact hs
    | cons x xs ih =>
      intro pre he acc u hu hs hn hlen hsp
      have e23 : tgi u 23 = (ls.length : Int) := by rw [hu.i 23 (by decide)]; exact h23
      have hll : ls.length = pre.length + (xs.length + 1) := by rw [he, List.length_append, List.length_cons]
      have hget : ls[pre.length]? = some x := by
        rw [he, List.getElem?_append, if_neg (by omega), Nat.sub_self]
        rfl
      obtain ⟨k1, k2, k3, k4, k5⟩ := hls.2 pre.length x hget
      have hxo := hok x (List.mem_of_getElem? hget)
      obtain ⟨o1, o2, o3, o4, o5, o6, o7, o8⟩ := hxo
      have hx1 := zsp1_len (hok x (List.mem_of_getElem? hget))
      obtain ⟨acc1, hacc1⟩ : ∃ acc1, acc1 = (if acc = [] then [] else acc ++ [43]) := ⟨_, rfl⟩
      have hacc1l : acc1.length ≤ 10 * pre.length + 1 := by
        rw [hacc1]
        by_cases c : acc = []
        · rw [if_pos c]; exact Nat.zero_le _
        · rw [if_neg c, List.length_append, List.length_singleton]; omega
      -- a leaf's letters
      have J : ∀ w, zfr [63] [62] [] t w → zSpl w acc1 → wM_spellsAll_j25 (fun z z1 => wM_spellsAll_l7 Q (xs.length + 1) z z1) Q (cv w) (i32 pre.length) := by
        intro w hw hws
        have e44 : tga w 44 pre.length = x.1 := by rw [hw.a 44 (by decide)]; exact k1
        -- behind the number
        have Z : ∀ w' acc', zfr [63] [62] [] t w' → zSpl w' acc' → acc'.length ≤ 10 * pre.length + 1 + 8 → acc' ++ (if x.1 = 1 then [33] else []) = acc1 ++ zsp1 x → wM_spellsAll_j95 (fun z z1 => wM_spellsAll_l7 Q (xs.length + 1) z z1) Q (cv w') (i32 pre.length) (i32 x.1) := by
          intro w' acc' hw' hs' hl' ha
          have fin : ∀ w2, zfr [63] [62] [] t w2 → zSpl w2 (acc1 ++ zsp1 x) → wM_spellsAll_l7 Q (xs.length + 1) (cv w2) (i32 ((pre.length : Int) + 1)) := by
            intro w2 g1 g2
            have e := ih (pre ++ [x]) (by rw [List.append_assoc]; exact he) (acc1 ++ zsp1 x) w2 g1 g2 ⟨fun q => ?_, fun q => by simp at q⟩ (by rw [List.length_append, List.length_append, List.length_singleton]; omega) (by rw [← hsp]; show _ = zspw xs ((if acc = [] then [] else acc ++ [43]) ++ zsp1 x); rw [hacc1])
            · rw [List.length_append, List.length_singleton] at e
              exact e
            · have := congrArg List.length q
              rw [List.length_append, List.length_nil] at this
              omega
          unfold wM_spellsAll_j95
          try simp only [zl32, zl64, i32_add, i32_sub, i32_mul, i32_neg, i64_add, i64_sub, i64_mul, i64_neg, cv_gi, cv_gw, cv_ga, cv_gl, cv_pi, cv_pw, cv_pa, cv_pl, zf_S, zf_i, zf_l, mz1, mz2, mz3, mz4]
          repeat' (first | (exfalso; omega) | (with_reducible refine zb_in ?_ ?_ ?_ ?_; omega; omega; omega) | (with_reducible refine zb_le ?_ ?_ ?_ ?_ (fun _ => ?_) (fun _ => ?_); omega; omega; omega; omega) | (with_reducible refine zb_lt ?_ ?_ ?_ ?_ (fun _ => ?_) (fun _ => ?_); omega; omega; omega; omega) | (with_reducible refine zb_eq ?_ ?_ ?_ ?_ (fun _ => ?_) (fun _ => ?_); omega; omega; omega; omega) | (with_reducible refine zb_leL ?_ ?_ ?_ ?_ (fun _ => ?_) (fun _ => ?_); omega; omega; omega; omega) | (with_reducible refine zb_ltL ?_ ?_ ?_ ?_ (fun _ => ?_) (fun _ => ?_); omega; omega; omega; omega) | (with_reducible refine zb_eqL ?_ ?_ ?_ ?_ (fun _ => ?_) (fun _ => ?_); omega; omega; omega; omega) | (with_reducible refine zb_nz ?_ ?_ ?_ ?_; omega; omega; omega) | (with_reducible refine zb_nzL ?_ ?_ ?_ ?_; omega; omega; omega) | with_reducible refine zb_ite ?_ | with_reducible refine zb_iteL ?_ | ((with_reducible intro y hy); subst hy; try simp only [zl32, zl64, i32_add, i32_sub, i32_mul, i32_neg, i64_add, i64_sub, i64_mul, i64_neg, cv_gi, cv_gw, cv_ga, cv_gl, cv_pi, cv_pw, cv_pa, cv_pl, zf_S, zf_i, zf_l, mz1, mz2, mz3, mz4, zr_ii, zr_iw, zr_ia, zr_il, zr_wi, zr_ww, zr_wa, zr_wl, zr_ai, zr_aw, zr_aa, zr_al, zr_li, zr_lw, zr_la, zr_ll, zw_ii, zw_ww, zw_aa, zw_ll, reduceIte, Nat.reduceEqDiff, if_true, if_false]) | with_reducible refine zb_o1 ?_ | with_reducible refine zb_o2 ?_ | with_reducible refine zb_o3 ?_ | with_reducible refine zb_o4 ?_ | with_reducible refine zb_tr ?_ | exact trivial | with_reducible refine zb_T ?_ | with_reducible refine zb_sp ?_ ?_)
          · rw [if_pos (by omega)] at ha
            refine sM_spells w' acc' 33 hs' (by omega) _ (fun w2 g1 g2 => fin w2 (hw'.trans g1) ?_)
            rw [← ha]
            exact g2
          · rw [if_neg (by omega), List.append_nil] at ha
            exact fin w' hw' (by rw [← ha]; exact hs')
        -- question marks
        have K : ∀ n (k : Nat) (w' : tS) (acc' : List Int), k + n = (x.1 - 1).toNat → zfr [63] [62] [] t w' → zSpl w' acc' → acc' = acc1 ++ List.replicate k 63 → wM_spellsAll_l34 (fun z z1 => wM_spellsAll_l7 Q (xs.length + 1) z z1) Q (i32 pre.length) (i32 x.1) (n + 1) (cv w') (i32 ((k : Int) + 2)) := by
          intro n
          induction n with
          | zero =>
            intro k w' acc' hk hw' hs' ha
            have hk : k = (x.1 - 1).toNat := by omega
            have hal : acc'.length ≤ 10 * pre.length + 1 + 3 := by
              rw [ha, List.length_append, List.length_replicate]
              omega
            have e45 : tga w' 45 pre.length = x.2.1 := by rw [hw'.a 45 (by decide)]; exact k2
            have e47 : tga w' 47 pre.length = x.2.2.2.1 := by rw [hw'.a 47 (by decide)]; exact k4
            rw [wM_spellsAll_l34]
            try simp only [zl32, zl64, i32_add, i32_sub, i32_mul, i32_neg, i64_add, i64_sub, i64_mul, i64_neg, cv_gi, cv_gw, cv_ga, cv_gl, cv_pi, cv_pw, cv_pa, cv_pl, zf_S, zf_i, zf_l, mz1, mz2, mz3, mz4]
            try simp (disch := omega) only [zi9, zi7, zi40, zi360, zikj, zijd, zi9o, zi7o, zip1, zip, zim1, i32_natN, ziL, zi_0, zi_1]
            rw [e45, e47]
            repeat' (first | (exfalso; omega) | (with_reducible refine zb_in ?_ ?_ ?_ ?_; omega; omega; omega) | (with_reducible refine zb_le ?_ ?_ ?_ ?_ (fun _ => ?_) (fun _ => ?_); omega; omega; omega; omega) | (with_reducible refine zb_lt ?_ ?_ ?_ ?_ (fun _ => ?_) (fun _ => ?_); omega; omega; omega; omega) | (with_reducible refine zb_eq ?_ ?_ ?_ ?_ (fun _ => ?_) (fun _ => ?_); omega; omega; omega; omega) | (with_reducible refine zb_leL ?_ ?_ ?_ ?_ (fun _ => ?_) (fun _ => ?_); omega; omega; omega; omega) | (with_reducible refine zb_ltL ?_ ?_ ?_ ?_ (fun _ => ?_) (fun _ => ?_); omega; omega; omega; omega) | (with_reducible refine zb_eqL ?_ ?_ ?_ ?_ (fun _ => ?_) (fun _ => ?_); omega; omega; omega; omega) | (with_reducible refine zb_nz ?_ ?_ ?_ ?_; omega; omega; omega) | (with_reducible refine zb_nzL ?_ ?_ ?_ ?_; omega; omega; omega) | with_reducible refine zb_ite ?_ | with_reducible refine zb_iteL ?_ | ((with_reducible intro y hy); subst hy; try simp only [zl32, zl64, i32_add, i32_sub, i32_mul, i32_neg, i64_add, i64_sub, i64_mul, i64_neg, cv_gi, cv_gw, cv_ga, cv_gl, cv_pi, cv_pw, cv_pa, cv_pl, zf_S, zf_i, zf_l, mz1, mz2, mz3, mz4, zr_ii, zr_iw, zr_ia, zr_il, zr_wi, zr_ww, zr_wa, zr_wl, zr_ai, zr_aw, zr_aa, zr_al, zr_li, zr_lw, zr_la, zr_ll, zw_ii, zw_ww, zw_aa, zw_ll, reduceIte, Nat.reduceEqDiff, if_true, if_false]) | with_reducible refine zb_o1 ?_ | with_reducible refine zb_o2 ?_ | with_reducible refine zb_o3 ?_ | with_reducible refine zb_o4 ?_ | with_reducible refine zb_tr ?_ | exact trivial | with_reducible refine zb_T ?_ | with_reducible refine zb_sp ?_ ?_)
            · refine sM_spellsNumber w' acc' x.2.1 hs' (by omega) (by omega) (by omega) _ (fun w2 g1 g2 => ?_)
              have n1 := znum_len x.2.1
              refine sM_spells w2 _ 46 g2 (by rw [List.length_append]; omega) _ (fun w3 g3 g4 => ?_)
              have f3 := (hw'.trans g1).trans g3
              have e46 : tga w3 46 pre.length = x.2.2.1 := by rw [f3.a 46 (by decide)]; exact k3
              try simp only [zl32, zl64, i32_add, i32_sub, i32_mul, i32_neg, i64_add, i64_sub, i64_mul, i64_neg, cv_gi, cv_gw, cv_ga, cv_gl, cv_pi, cv_pw, cv_pa, cv_pl, zf_S, zf_i, zf_l, mz1, mz2, mz3, mz4]
              try simp (disch := omega) only [zi9, zi7, zi40, zi360, zikj, zijd, zi9o, zi7o, zip1, zip, zim1, i32_natN, ziL, zi_0, zi_1]
              rw [e46]
              repeat' (first | (exfalso; omega) | (with_reducible refine zb_in ?_ ?_ ?_ ?_; omega; omega; omega) | (with_reducible refine zb_le ?_ ?_ ?_ ?_ (fun _ => ?_) (fun _ => ?_); omega; omega; omega; omega) | (with_reducible refine zb_lt ?_ ?_ ?_ ?_ (fun _ => ?_) (fun _ => ?_); omega; omega; omega; omega) | (with_reducible refine zb_eq ?_ ?_ ?_ ?_ (fun _ => ?_) (fun _ => ?_); omega; omega; omega; omega) | (with_reducible refine zb_leL ?_ ?_ ?_ ?_ (fun _ => ?_) (fun _ => ?_); omega; omega; omega; omega) | (with_reducible refine zb_ltL ?_ ?_ ?_ ?_ (fun _ => ?_) (fun _ => ?_); omega; omega; omega; omega) | (with_reducible refine zb_eqL ?_ ?_ ?_ ?_ (fun _ => ?_) (fun _ => ?_); omega; omega; omega; omega) | (with_reducible refine zb_nz ?_ ?_ ?_ ?_; omega; omega; omega) | (with_reducible refine zb_nzL ?_ ?_ ?_ ?_; omega; omega; omega) | with_reducible refine zb_ite ?_ | with_reducible refine zb_iteL ?_ | ((with_reducible intro y hy); subst hy; try simp only [zl32, zl64, i32_add, i32_sub, i32_mul, i32_neg, i64_add, i64_sub, i64_mul, i64_neg, cv_gi, cv_gw, cv_ga, cv_gl, cv_pi, cv_pw, cv_pa, cv_pl, zf_S, zf_i, zf_l, mz1, mz2, mz3, mz4, zr_ii, zr_iw, zr_ia, zr_il, zr_wi, zr_ww, zr_wa, zr_wl, zr_ai, zr_aw, zr_aa, zr_al, zr_li, zr_lw, zr_la, zr_ll, zw_ii, zw_ww, zw_aa, zw_ll, reduceIte, Nat.reduceEqDiff, if_true, if_false]) | with_reducible refine zb_o1 ?_ | with_reducible refine zb_o2 ?_ | with_reducible refine zb_o3 ?_ | with_reducible refine zb_o4 ?_ | with_reducible refine zb_tr ?_ | exact trivial | with_reducible refine zb_T ?_ | with_reducible refine zb_sp ?_ ?_)
              refine sM_spellsNumber w3 _ x.2.2.1 g4 (by rw [List.length_append, List.length_append, List.length_singleton]; omega) (by omega) (by omega) _ (fun w4 g5 g6 => ?_)
              have n2 := znum_len x.2.2.1
              refine Z w4 _ (f3.trans g5) g6 (by rw [List.length_append, List.length_append, List.length_append, List.length_singleton]; omega) ?_
              rw [ha, hk]
              unfold zsp1
              rw [if_pos (show x.1 < 2 by assumption)]
              simp only [List.append_assoc]
            · refine sM_spellsNumber w' acc' x.2.2.2.1 hs' (by omega) (by omega) (by omega) _ (fun w2 g1 g2 => ?_)
              have n1 := znum_len x.2.2.2.1
              refine Z w2 _ (hw'.trans g1) g2 (by rw [List.length_append]; omega) ?_
              rw [ha, hk]
              unfold zsp1
              rw [if_neg (show ¬ x.1 < 2 by assumption)]
              simp only [List.append_assoc]
          | succ n ihn =>
            intro k w' acc' hk hw' hs' ha
            have hal : acc'.length ≤ 10 * pre.length + 1 + 3 := by
              rw [ha, List.length_append, List.length_replicate]
              omega
            rw [wM_spellsAll_l34]
            try simp only [zl32, zl64, i32_add, i32_sub, i32_mul, i32_neg, i64_add, i64_sub, i64_mul, i64_neg, cv_gi, cv_gw, cv_ga, cv_gl, cv_pi, cv_pw, cv_pa, cv_pl, zf_S, zf_i, zf_l, mz1, mz2, mz3, mz4]
            repeat' (first | (exfalso; omega) | (with_reducible refine zb_in ?_ ?_ ?_ ?_; omega; omega; omega) | (with_reducible refine zb_le ?_ ?_ ?_ ?_ (fun _ => ?_) (fun _ => ?_); omega; omega; omega; omega) | (with_reducible refine zb_lt ?_ ?_ ?_ ?_ (fun _ => ?_) (fun _ => ?_); omega; omega; omega; omega) | (with_reducible refine zb_eq ?_ ?_ ?_ ?_ (fun _ => ?_) (fun _ => ?_); omega; omega; omega; omega) | (with_reducible refine zb_leL ?_ ?_ ?_ ?_ (fun _ => ?_) (fun _ => ?_); omega; omega; omega; omega) | (with_reducible refine zb_ltL ?_ ?_ ?_ ?_ (fun _ => ?_) (fun _ => ?_); omega; omega; omega; omega) | (with_reducible refine zb_eqL ?_ ?_ ?_ ?_ (fun _ => ?_) (fun _ => ?_); omega; omega; omega; omega) | (with_reducible refine zb_nz ?_ ?_ ?_ ?_; omega; omega; omega) | (with_reducible refine zb_nzL ?_ ?_ ?_ ?_; omega; omega; omega) | with_reducible refine zb_ite ?_ | with_reducible refine zb_iteL ?_ | ((with_reducible intro y hy); subst hy; try simp only [zl32, zl64, i32_add, i32_sub, i32_mul, i32_neg, i64_add, i64_sub, i64_mul, i64_neg, cv_gi, cv_gw, cv_ga, cv_gl, cv_pi, cv_pw, cv_pa, cv_pl, zf_S, zf_i, zf_l, mz1, mz2, mz3, mz4, zr_ii, zr_iw, zr_ia, zr_il, zr_wi, zr_ww, zr_wa, zr_wl, zr_ai, zr_aw, zr_aa, zr_al, zr_li, zr_lw, zr_la, zr_ll, zw_ii, zw_ww, zw_aa, zw_ll, reduceIte, Nat.reduceEqDiff, if_true, if_false]) | with_reducible refine zb_o1 ?_ | with_reducible refine zb_o2 ?_ | with_reducible refine zb_o3 ?_ | with_reducible refine zb_o4 ?_ | with_reducible refine zb_tr ?_ | exact trivial | with_reducible refine zb_T ?_ | with_reducible refine zb_sp ?_ ?_)
            refine sM_spells w' acc' 63 hs' (by omega) _ (fun w2 g1 g2 => ?_)
            have e := ihn (k + 1) w2 _ (by omega) (hw'.trans g1) g2 (by rw [ha, List.append_assoc, List.replicate_succ'])
            try simp only [zl32, zl64, i32_add, i32_sub, i32_mul, i32_neg, i64_add, i64_sub, i64_mul, i64_neg, cv_gi, cv_gw, cv_ga, cv_gl, cv_pi, cv_pw, cv_pa, cv_pl, zf_S, zf_i, zf_l, mz1, mz2, mz3, mz4]
            rw [show (k : Int) + 2 + 1 = ((k + 1 : Nat) : Int) + 2 by omega]
            exact e
        unfold wM_spellsAll_j25
        try simp only [zl32, zl64, i32_add, i32_sub, i32_mul, i32_neg, i64_add, i64_sub, i64_mul, i64_neg, cv_gi, cv_gw, cv_ga, cv_gl, cv_pi, cv_pw, cv_pa, cv_pl, zf_S, zf_i, zf_l, mz1, mz2, mz3, mz4]
        try simp (disch := omega) only [zi9, zi7, zi40, zi360, zikj, zijd, zi9o, zi7o, zip1, zip, zim1, i32_natN, ziL, zi_0, zi_1]
        rw [e44]
        repeat' (first | (exfalso; omega) | (with_reducible refine zb_in ?_ ?_ ?_ ?_; omega; omega; omega) | (with_reducible refine zb_le ?_ ?_ ?_ ?_ (fun _ => ?_) (fun _ => ?_); omega; omega; omega; omega) | (with_reducible refine zb_lt ?_ ?_ ?_ ?_ (fun _ => ?_) (fun _ => ?_); omega; omega; omega; omega) | (with_reducible refine zb_eq ?_ ?_ ?_ ?_ (fun _ => ?_) (fun _ => ?_); omega; omega; omega; omega) | (with_reducible refine zb_leL ?_ ?_ ?_ ?_ (fun _ => ?_) (fun _ => ?_); omega; omega; omega; omega) | (with_reducible refine zb_ltL ?_ ?_ ?_ ?_ (fun _ => ?_) (fun _ => ?_); omega; omega; omega; omega) | (with_reducible refine zb_eqL ?_ ?_ ?_ ?_ (fun _ => ?_) (fun _ => ?_); omega; omega; omega; omega) | (with_reducible refine zb_nz ?_ ?_ ?_ ?_; omega; omega; omega) | (with_reducible refine zb_nzL ?_ ?_ ?_ ?_; omega; omega; omega) | with_reducible refine zb_ite ?_ | with_reducible refine zb_iteL ?_ | ((with_reducible intro y hy); subst hy; try simp only [zl32, zl64, i32_add, i32_sub, i32_mul, i32_neg, i64_add, i64_sub, i64_mul, i64_neg, cv_gi, cv_gw, cv_ga, cv_gl, cv_pi, cv_pw, cv_pa, cv_pl, zf_S, zf_i, zf_l, mz1, mz2, mz3, mz4, zr_ii, zr_iw, zr_ia, zr_il, zr_wi, zr_ww, zr_wa, zr_wl, zr_ai, zr_aw, zr_aa, zr_al, zr_li, zr_lw, zr_la, zr_ll, zw_ii, zw_ww, zw_aa, zw_ll, reduceIte, Nat.reduceEqDiff, if_true, if_false]) | with_reducible refine zb_o1 ?_ | with_reducible refine zb_o2 ?_ | with_reducible refine zb_o3 ?_ | with_reducible refine zb_o4 ?_ | with_reducible refine zb_tr ?_ | exact trivial | with_reducible refine zb_T ?_ | with_reducible refine zb_sp ?_ ?_)
        have e := K _ 0 w acc1 (Nat.zero_add _) hw hws (by rw [List.replicate_zero, List.append_nil])
        exact ⟨_, e⟩
      rw [List.length_cons, wM_spellsAll_l7]
      try simp only [zl32, zl64, i32_add, i32_sub, i32_mul, i32_neg, i64_add, i64_sub, i64_mul, i64_neg, cv_gi, cv_gw, cv_ga, cv_gl, cv_pi, cv_pw, cv_pa, cv_pl, zf_S, zf_i, zf_l, mz1, mz2, mz3, mz4]
      rw [e23]
      repeat' (first | (exfalso; omega) | (with_reducible refine zb_in ?_ ?_ ?_ ?_; omega; omega; omega) | (with_reducible refine zb_le ?_ ?_ ?_ ?_ (fun _ => ?_) (fun _ => ?_); omega; omega; omega; omega) | (with_reducible refine zb_lt ?_ ?_ ?_ ?_ (fun _ => ?_) (fun _ => ?_); omega; omega; omega; omega) | (with_reducible refine zb_eq ?_ ?_ ?_ ?_ (fun _ => ?_) (fun _ => ?_); omega; omega; omega; omega) | (with_reducible refine zb_leL ?_ ?_ ?_ ?_ (fun _ => ?_) (fun _ => ?_); omega; omega; omega; omega) | (with_reducible refine zb_ltL ?_ ?_ ?_ ?_ (fun _ => ?_) (fun _ => ?_); omega; omega; omega; omega) | (with_reducible refine zb_eqL ?_ ?_ ?_ ?_ (fun _ => ?_) (fun _ => ?_); omega; omega; omega; omega) | (with_reducible refine zb_nz ?_ ?_ ?_ ?_; omega; omega; omega) | (with_reducible refine zb_nzL ?_ ?_ ?_ ?_; omega; omega; omega) | with_reducible refine zb_ite ?_ | with_reducible refine zb_iteL ?_ | ((with_reducible intro y hy); subst hy; try simp only [zl32, zl64, i32_add, i32_sub, i32_mul, i32_neg, i64_add, i64_sub, i64_mul, i64_neg, cv_gi, cv_gw, cv_ga, cv_gl, cv_pi, cv_pw, cv_pa, cv_pl, zf_S, zf_i, zf_l, mz1, mz2, mz3, mz4, zr_ii, zr_iw, zr_ia, zr_il, zr_wi, zr_ww, zr_wa, zr_wl, zr_ai, zr_aw, zr_aa, zr_al, zr_li, zr_lw, zr_la, zr_ll, zw_ii, zw_ww, zw_aa, zw_ll, reduceIte, Nat.reduceEqDiff, if_true, if_false]) | with_reducible refine zb_o1 ?_ | with_reducible refine zb_o2 ?_ | with_reducible refine zb_o3 ?_ | with_reducible refine zb_o4 ?_ | with_reducible refine zb_tr ?_ | exact trivial | with_reducible refine zb_T ?_ | with_reducible refine zb_sp ?_ ?_)
      · have hp : pre = [] := List.eq_nil_of_length_eq_zero (by omega)
        refine J u hu ?_
        rw [hacc1, if_pos (hn.mpr hp)]
        rw [hn.mpr hp] at hs
        exact hs
      · have hp : ¬ acc = [] := fun q => by have := congrArg List.length (hn.mp q); rw [List.length_nil] at this; omega
        refine sM_spells u acc 43 hs (by omega) _ (fun w g1 g2 => J w (hu.trans g1) ?_)
        rw [hacc1, if_neg hp]
        exact g2
  unfold wM_spellsAll
  try simp only [zl32, zl64, i32_add, i32_sub, i32_mul, i32_neg, i64_add, i64_sub, i64_mul, i64_neg, cv_gi, cv_gw, cv_ga, cv_gl, cv_pi, cv_pw, cv_pa, cv_pl, zf_S, zf_i, zf_l, mz1, mz2, mz3, mz4]
  have e := S ls [] rfl [] (tpi t 63 0) (zfr_pi (zfr.refl t) (by decide)) ⟨by try simp only [zl32, zl64, i32_add, i32_sub, i32_mul, i32_neg, i64_add, i64_sub, i64_mul, i64_neg, cv_gi, cv_gw, cv_ga, cv_gl, cv_pi, cv_pw, cv_pa, cv_pl, zf_S, zf_i, zf_l, mz1, mz2, mz3, mz4, zr_ii, zr_iw, zr_ia, zr_il, zr_wi, zr_ww, zr_wa, zr_wl, zr_ai, zr_aw, zr_aa, zr_al, zr_li, zr_lw, zr_la, zr_ll, zw_ii, zw_ww, zw_aa, zw_ll, reduceIte, Nat.reduceEqDiff, if_true, if_false]; rfl, fun i c h => by cases h⟩ ⟨fun _ => rfl, fun _ => rfl⟩ (Nat.zero_le _) rfl
  exact ⟨_, e⟩
/-- a slot's polynomial in numbers -/
def zpoly (M : Int) (g : Nat → Int) : Nat → Int := fun k => if k < 9 then g k % M else 0
theorem zpoly_red {M : Int} (hM : 0 < M) (g : Nat → Int) : zred M 9 (zpoly M g) := by
  intro q hq
  unfold zpoly
  rw [if_pos hq]
  exact ⟨Int.emod_nonneg _ (by omega), Int.emod_lt_of_pos _ hM⟩
theorem zpoly_deg {M p : Int} (hM : 2 ≤ M) (hp : 2 ≤ p) {g : Nat → Int} (hg : zmon g) : 0 ≤ degN (fun k => zpoly M g k % p) 9 := by
  rcases Int.lt_or_le (degN (fun k => zpoly M g k % p) 9) 0 with q | q
  · have hd := degN_lt g 9
    have hz := degN_hi (fun k => zpoly M g k % p) 9 (degN g 9).toNat (by have := hg.1; omega) (by have := hg.1; omega)
    exfalso
    have hz : zpoly M g (degN g 9).toNat % p = 0 := hz
    unfold zpoly at hz
    rw [if_pos (by have := hg.1; omega), hg.2, Int.emod_eq_of_lt (a := 1) (b := M) (by omega) (by omega), Int.emod_eq_of_lt (a := 1) (b := p) (by omega) (by omega)] at hz
    omega
  · exact q
theorem sM_grow (t : tS) (s : Nat) (hs : s < 5) (hP : zPR t) (hS : zSL t) (h19 : ∀ k, 9 ≤ k → tgl t 19 k = 0) (Q : Int32 → mS → Prop)
    (h0 : ¬ zmon (zslot t s) → Q (i32 (-3)) (cv t))
    (h1 : zmon (zslot t s) → ∀ v, zfr [11, 12, 18, 20, 21, 22, 23, 49, 56, 61, 63] (62 :: [10, 13, 14, 15, 16, 17, 24, 25, 26, 27, 28, 29, 30, 31, 32, 33, 34, 35, 36, 37, 38, 39, 40, 41, 42, 43, 44, 45, 46, 47, 48, 49, 50, 51, 52, 53, 54, 55, 58, 59, 60]) [8, 9, 19, 57] t v → zTR v (zpoly (tgw t) (zslot t s)) (zTree (tgw t) (tgi t 0) (zpoly (tgw t) (zslot t s))) → tgi v 18 = 1 → tgi v 20 = degN (zslot t s) 9 → zSpl v (zspell (zTree (tgw t) (tgi t 0) (zpoly (tgw t) (zslot t s))).2) → Q (i32 ((zTree (tgw t) (tgi t 0) (zpoly (tgw t) (zslot t s))).2.length : Nat)) (cv v)) : wM_grow (cv t) (i32 s) Q := by
  have hw := hP.w
  have hp := hP.p
  obtain ⟨f, hf⟩ : ∃ f, f = zpoly (tgw t) (zslot t s) := ⟨_, rfl⟩
  have hfr : zred (tgw t) 9 f := by rw [hf]; exact zpoly_red (by omega) _
  obtain ⟨T, hT⟩ : ∃ T, T = zTree (tgw t) (tgi t 0) f := ⟨_, rfl⟩
  rw [← hf] at h1
  rw [← hT] at h1
  have hbd := zTree_bd hP.pr hw.1 hw.2 hfr
  have hlk := zTree_lok hP.pr hw.1 hw.2 hfr
  rw [← hT] at hbd hlk
  unfold wM_grow
  refine sM_isSlot s (by omega) (by omega) _ (fun _ _ => ?_) (fun q => by omega)
  try simp only [zl32, zl64, i32_add, i32_sub, i32_mul, i32_neg, i64_add, i64_sub, i64_mul, i64_neg, cv_gi, cv_gw, cv_ga, cv_gl, cv_pi, cv_pw, cv_pa, cv_pl, zf_S, zf_i, zf_l, mz1, mz2, mz3, mz4]
  repeat' (first | (exfalso; omega) | (with_reducible refine zb_in ?_ ?_ ?_ ?_; omega; omega; omega) | (with_reducible refine zb_le ?_ ?_ ?_ ?_ (fun _ => ?_) (fun _ => ?_); omega; omega; omega; omega) | (with_reducible refine zb_lt ?_ ?_ ?_ ?_ (fun _ => ?_) (fun _ => ?_); omega; omega; omega; omega) | (with_reducible refine zb_eq ?_ ?_ ?_ ?_ (fun _ => ?_) (fun _ => ?_); omega; omega; omega; omega) | (with_reducible refine zb_leL ?_ ?_ ?_ ?_ (fun _ => ?_) (fun _ => ?_); omega; omega; omega; omega) | (with_reducible refine zb_ltL ?_ ?_ ?_ ?_ (fun _ => ?_) (fun _ => ?_); omega; omega; omega; omega) | (with_reducible refine zb_eqL ?_ ?_ ?_ ?_ (fun _ => ?_) (fun _ => ?_); omega; omega; omega; omega) | (with_reducible refine zb_nz ?_ ?_ ?_ ?_; omega; omega; omega) | (with_reducible refine zb_nzL ?_ ?_ ?_ ?_; omega; omega; omega) | with_reducible refine zb_ite ?_ | with_reducible refine zb_iteL ?_ | ((with_reducible intro y hy); subst hy; try simp only [zl32, zl64, i32_add, i32_sub, i32_mul, i32_neg, i64_add, i64_sub, i64_mul, i64_neg, cv_gi, cv_gw, cv_ga, cv_gl, cv_pi, cv_pw, cv_pa, cv_pl, zf_S, zf_i, zf_l, mz1, mz2, mz3, mz4, zr_ii, zr_iw, zr_ia, zr_il, zr_wi, zr_ww, zr_wa, zr_wl, zr_ai, zr_aw, zr_aa, zr_al, zr_li, zr_lw, zr_la, zr_ll, zw_ii, zw_ww, zw_aa, zw_ll, reduceIte, Nat.reduceEqDiff, if_true, if_false]) | with_reducible refine zb_o1 ?_ | with_reducible refine zb_o2 ?_ | with_reducible refine zb_o3 ?_ | with_reducible refine zb_o4 ?_ | with_reducible refine zb_tr ?_ | exact trivial | with_reducible refine zb_T ?_ | with_reducible refine zb_sp ?_ ?_)
  refine sM_isMonic t s hs hS _ (fun hm => ?_) (fun hm => ?_)
  · try simp only [zl32, zl64, i32_add, i32_sub, i32_mul, i32_neg, i64_add, i64_sub, i64_mul, i64_neg, cv_gi, cv_gw, cv_ga, cv_gl, cv_pi, cv_pw, cv_pa, cv_pl, zf_S, zf_i, zf_l, mz1, mz2, mz3, mz4]
    repeat' (first | (exfalso; omega) | (with_reducible refine zb_in ?_ ?_ ?_ ?_; omega; omega; omega) | (with_reducible refine zb_le ?_ ?_ ?_ ?_ (fun _ => ?_) (fun _ => ?_); omega; omega; omega; omega) | (with_reducible refine zb_lt ?_ ?_ ?_ ?_ (fun _ => ?_) (fun _ => ?_); omega; omega; omega; omega) | (with_reducible refine zb_eq ?_ ?_ ?_ ?_ (fun _ => ?_) (fun _ => ?_); omega; omega; omega; omega) | (with_reducible refine zb_leL ?_ ?_ ?_ ?_ (fun _ => ?_) (fun _ => ?_); omega; omega; omega; omega) | (with_reducible refine zb_ltL ?_ ?_ ?_ ?_ (fun _ => ?_) (fun _ => ?_); omega; omega; omega; omega) | (with_reducible refine zb_eqL ?_ ?_ ?_ ?_ (fun _ => ?_) (fun _ => ?_); omega; omega; omega; omega) | (with_reducible refine zb_nz ?_ ?_ ?_ ?_; omega; omega; omega) | (with_reducible refine zb_nzL ?_ ?_ ?_ ?_; omega; omega; omega) | with_reducible refine zb_ite ?_ | with_reducible refine zb_iteL ?_ | ((with_reducible intro y hy); subst hy; try simp only [zl32, zl64, i32_add, i32_sub, i32_mul, i32_neg, i64_add, i64_sub, i64_mul, i64_neg, cv_gi, cv_gw, cv_ga, cv_gl, cv_pi, cv_pw, cv_pa, cv_pl, zf_S, zf_i, zf_l, mz1, mz2, mz3, mz4, zr_ii, zr_iw, zr_ia, zr_il, zr_wi, zr_ww, zr_wa, zr_wl, zr_ai, zr_aw, zr_aa, zr_al, zr_li, zr_lw, zr_la, zr_ll, zw_ii, zw_ww, zw_aa, zw_ll, reduceIte, Nat.reduceEqDiff, if_true, if_false]) | with_reducible refine zb_o1 ?_ | with_reducible refine zb_o2 ?_ | with_reducible refine zb_o3 ?_ | with_reducible refine zb_o4 ?_ | with_reducible refine zb_tr ?_ | exact trivial | with_reducible refine zb_T ?_ | with_reducible refine zb_sp ?_ ?_)
    have L : ∀ n k : Nat, k + n = 9 → wM_grow_l22 Q (i32 s) (n + 1) (cv (tsl t 19 (zov k f (tgl t 19)))) (i32 k) := by
      intro n
      induction n with
      | zero =>
        intro k hk
        have hk : k = 9 := by omega
        subst hk
        have ef : zov 9 f (tgl t 19) = f := by
          funext q
          unfold zov
          by_cases c : q < 9
          · rw [if_pos c]
          · rw [if_neg c, h19 q (by omega), hf]
            unfold zpoly
            rw [if_neg c]
        rw [wM_grow_l22, ef]
        try simp only [zl32, zl64, i32_add, i32_sub, i32_mul, i32_neg, i64_add, i64_sub, i64_mul, i64_neg, cv_gi, cv_gw, cv_ga, cv_gl, cv_pi, cv_pw, cv_pa, cv_pl, zf_S, zf_i, zf_l, mz1, mz2, mz3, mz4]
        repeat' (first | (exfalso; omega) | (with_reducible refine zb_in ?_ ?_ ?_ ?_; omega; omega; omega) | (with_reducible refine zb_le ?_ ?_ ?_ ?_ (fun _ => ?_) (fun _ => ?_); omega; omega; omega; omega) | (with_reducible refine zb_lt ?_ ?_ ?_ ?_ (fun _ => ?_) (fun _ => ?_); omega; omega; omega; omega) | (with_reducible refine zb_eq ?_ ?_ ?_ ?_ (fun _ => ?_) (fun _ => ?_); omega; omega; omega; omega) | (with_reducible refine zb_leL ?_ ?_ ?_ ?_ (fun _ => ?_) (fun _ => ?_); omega; omega; omega; omega) | (with_reducible refine zb_ltL ?_ ?_ ?_ ?_ (fun _ => ?_) (fun _ => ?_); omega; omega; omega; omega) | (with_reducible refine zb_eqL ?_ ?_ ?_ ?_ (fun _ => ?_) (fun _ => ?_); omega; omega; omega; omega) | (with_reducible refine zb_nz ?_ ?_ ?_ ?_; omega; omega; omega) | (with_reducible refine zb_nzL ?_ ?_ ?_ ?_; omega; omega; omega) | with_reducible refine zb_ite ?_ | with_reducible refine zb_iteL ?_ | ((with_reducible intro y hy); subst hy; try simp only [zl32, zl64, i32_add, i32_sub, i32_mul, i32_neg, i64_add, i64_sub, i64_mul, i64_neg, cv_gi, cv_gw, cv_ga, cv_gl, cv_pi, cv_pw, cv_pa, cv_pl, zf_S, zf_i, zf_l, mz1, mz2, mz3, mz4, zr_ii, zr_iw, zr_ia, zr_il, zr_wi, zr_ww, zr_wa, zr_wl, zr_ai, zr_aw, zr_aa, zr_al, zr_li, zr_lw, zr_la, zr_ll, zw_ii, zw_ww, zw_aa, zw_ll, reduceIte, Nat.reduceEqDiff, if_true, if_false]) | with_reducible refine zb_o1 ?_ | with_reducible refine zb_o2 ?_ | with_reducible refine zb_o3 ?_ | with_reducible refine zb_o4 ?_ | with_reducible refine zb_tr ?_ | exact trivial | with_reducible refine zb_T ?_ | with_reducible refine zb_sp ?_ ?_)
        refine sM_degreeOf (tsl t 19 f) s hs hS _ ?_
        try simp only [zl32, zl64, i32_add, i32_sub, i32_mul, i32_neg, i64_add, i64_sub, i64_mul, i64_neg, cv_gi, cv_gw, cv_ga, cv_gl, cv_pi, cv_pw, cv_pa, cv_pl, zf_S, zf_i, zf_l, mz1, mz2, mz3, mz4, zr_ii, zr_iw, zr_ia, zr_il, zr_wi, zr_ww, zr_wa, zr_wl, zr_ai, zr_aw, zr_aa, zr_al, zr_li, zr_lw, zr_la, zr_ll, zw_ii, zw_ww, zw_aa, zw_ll, reduceIte, Nat.reduceEqDiff, if_true, if_false]
        try simp (disch := omega) only [zi9, zi7, zi40, zi360, zikj, zijd, zi9o, zi7o, zip1, zip, zim1, i32_natN, ziL, zi_0, zi_1]
        rw [show zslot (tsl t 19 f) s = zslot t s from rfl]
        obtain ⟨u, hu⟩ : ∃ u, u = tsa (tsa (tsa (tpi (tpi (tpi (tpi (tpi (tpi (tsl t 19 f) 20 (degN (zslot t s) 9)) 18 1) 21 0) 22 0) 23 0) 61 0) 58 (zup (tga t 58) 0 0)) 59 (zup (tga t 59) 0 0)) 60 (zup (tga t 60) 0 0) := ⟨_, rfl⟩
        rw [← hu]
        have fu : zfr [18, 20, 21, 22, 23, 61] [58, 59, 60] [19] t u := by
          rw [hu]
          exact zfr_sa (zfr_sa (zfr_sa (zfr_pi (zfr_pi (zfr_pi (zfr_pi (zfr_pi (zfr_pi (zfr_sl (zfr.refl t) (by decide)) (by decide)) (by decide)) (by decide)) (by decide)) (by decide)) (by decide)) (by decide)) (by decide)) (by decide)
        have hsum := zFc_sum (tgi t 0) (fun k => f k % tgi t 0)
        have hdl := degN_lt (fun k => f k % tgi t 0) 9
        obtain ⟨cnt, hcnt⟩ := zsim_top hP.pr hw.1 hw.2 hfr (by rw [hf]; exact zpoly_deg hw.1 hp.1 hm) (zFc (tgi t 0) (fun k => f k % tgi t 0)) [] (List.nil_append _).symm ([], []) ⟨by show 2 * 0 + _ ≤ 48; omega, by show 0 + _ ≤ 48; omega, by show 0 + _ ≤ 8; omega⟩
        refine ⟨1 + cnt, hcnt Q 1 u u ⟨fu.1.symm, fu.i 0 (by decide), ?_, zfr.refl u⟩ ⟨by rw [hu]; rfl, by rw [hu]; exact zup_at (tga t 58) 0 0, by rw [hu]; exact zup_at (tga t 59) 0 0, by rw [hu]; exact zup_at (tga t 60) 0 0⟩ (fun v hv1 hv2 => ?_)⟩
        · refine ⟨fu.PR (by decide) (by decide) hP, by rw [← fu.1]; exact hfr, by rw [hu]; rfl, by rw [hu]; rfl, by rw [hu]; rfl, ⟨by rw [hu]; rfl, fun i x hx => (by cases hx)⟩, fun i x hx => (by cases hx)⟩
        · obtain ⟨v1, v2, v3, v4⟩ := hv1
          have v3 : zTR v f T := by rw [hT]; exact v3
          unfold zRun
          rw [wM_grow_l106]
          try simp only [zl32, zl64, i32_add, i32_sub, i32_mul, i32_neg, i64_add, i64_sub, i64_mul, i64_neg, cv_gi, cv_gw, cv_ga, cv_gl, cv_pi, cv_pw, cv_pa, cv_pl, zf_S, zf_i, zf_l, mz1, mz2, mz3, mz4]
          rw [hv2]
          repeat' (first | (exfalso; omega) | (with_reducible refine zb_in ?_ ?_ ?_ ?_; omega; omega; omega) | (with_reducible refine zb_le ?_ ?_ ?_ ?_ (fun _ => ?_) (fun _ => ?_); omega; omega; omega; omega) | (with_reducible refine zb_lt ?_ ?_ ?_ ?_ (fun _ => ?_) (fun _ => ?_); omega; omega; omega; omega) | (with_reducible refine zb_eq ?_ ?_ ?_ ?_ (fun _ => ?_) (fun _ => ?_); omega; omega; omega; omega) | (with_reducible refine zb_leL ?_ ?_ ?_ ?_ (fun _ => ?_) (fun _ => ?_); omega; omega; omega; omega) | (with_reducible refine zb_ltL ?_ ?_ ?_ ?_ (fun _ => ?_) (fun _ => ?_); omega; omega; omega; omega) | (with_reducible refine zb_eqL ?_ ?_ ?_ ?_ (fun _ => ?_) (fun _ => ?_); omega; omega; omega; omega) | (with_reducible refine zb_nz ?_ ?_ ?_ ?_; omega; omega; omega) | (with_reducible refine zb_nzL ?_ ?_ ?_ ?_; omega; omega; omega) | with_reducible refine zb_ite ?_ | with_reducible refine zb_iteL ?_ | ((with_reducible intro y hy); subst hy; try simp only [zl32, zl64, i32_add, i32_sub, i32_mul, i32_neg, i64_add, i64_sub, i64_mul, i64_neg, cv_gi, cv_gw, cv_ga, cv_gl, cv_pi, cv_pw, cv_pa, cv_pl, zf_S, zf_i, zf_l, mz1, mz2, mz3, mz4, zr_ii, zr_iw, zr_ia, zr_il, zr_wi, zr_ww, zr_wa, zr_wl, zr_ai, zr_aw, zr_aa, zr_al, zr_li, zr_lw, zr_la, zr_ll, zw_ii, zw_ww, zw_aa, zw_ll, reduceIte, Nat.reduceEqDiff, if_true, if_false]) | with_reducible refine zb_o1 ?_ | with_reducible refine zb_o2 ?_ | with_reducible refine zb_o3 ?_ | with_reducible refine zb_o4 ?_ | with_reducible refine zb_tr ?_ | exact trivial | with_reducible refine zb_T ?_ | with_reducible refine zb_sp ?_ ?_)
          refine sM_spellsAll v T.2 v3.2.2.2.2.2.1 (by have := hbd.2.2; rw [show ([] : List zL).length = 0 from rfl, Nat.zero_add] at this; exact this) hlk _ (fun w g1 g2 => ?_)
          have fw : zfr [11, 12, 18, 20, 21, 22, 23, 49, 56, 61, 63] (62 :: [10, 13, 14, 15, 16, 17, 24, 25, 26, 27, 28, 29, 30, 31, 32, 33, 34, 35, 36, 37, 38, 39, 40, 41, 42, 43, 44, 45, 46, 47, 48, 49, 50, 51, 52, 53, 54, 55, 58, 59, 60]) [8, 9, 19, 57] t w := ((fu.mono (by decide) (by decide) (by decide)).trans (zfr.mono v4 (by decide) (by decide) (by decide))).trans (g1.mono (by decide) (by decide) (by decide))
          have e23 : tgi w 23 = (T.2.length : Int) := by rw [g1.i 23 (by decide)]; exact v3.2.2.2.2.2.1.1
          have e := h1 hm w fw (v3.moved g1 (by decide) (by decide) (by decide) (by decide) (by decide) (fun k a b => by simp; omega) (by decide) (by decide)) (by rw [g1.i 18 (by decide), zfr.i v4 18 (by decide), hu]; rfl) (by rw [g1.i 20 (by decide), zfr.i v4 20 (by decide), hu]; rfl) g2
          try simp only [zl32, zl64, i32_add, i32_sub, i32_mul, i32_neg, i64_add, i64_sub, i64_mul, i64_neg, cv_gi, cv_gw, cv_ga, cv_gl, cv_pi, cv_pw, cv_pa, cv_pl, zf_S, zf_i, zf_l, mz1, mz2, mz3, mz4]
          rw [e23]
          exact e
      | succ n ih =>
        intro k hk
        have e := ih (k + 1) (by omega)
        rw [← zov_s] at e
        have r := hS (9 * s + k) (by omega)
        have r' : -9999 ≤ zslot t s k ∧ zslot t s k ≤ 9999 := r
        rw [wM_grow_l22]
        try simp only [zl32, zl64, i32_add, i32_sub, i32_mul, i32_neg, i64_add, i64_sub, i64_mul, i64_neg, cv_gi, cv_gw, cv_ga, cv_gl, cv_pi, cv_pw, cv_pa, cv_pl, zf_S, zf_i, zf_l, mz1, mz2, mz3, mz4]
        repeat' (first | (exfalso; omega) | (with_reducible refine zb_in ?_ ?_ ?_ ?_; omega; omega; omega) | (with_reducible refine zb_le ?_ ?_ ?_ ?_ (fun _ => ?_) (fun _ => ?_); omega; omega; omega; omega) | (with_reducible refine zb_lt ?_ ?_ ?_ ?_ (fun _ => ?_) (fun _ => ?_); omega; omega; omega; omega) | (with_reducible refine zb_eq ?_ ?_ ?_ ?_ (fun _ => ?_) (fun _ => ?_); omega; omega; omega; omega) | (with_reducible refine zb_leL ?_ ?_ ?_ ?_ (fun _ => ?_) (fun _ => ?_); omega; omega; omega; omega) | (with_reducible refine zb_ltL ?_ ?_ ?_ ?_ (fun _ => ?_) (fun _ => ?_); omega; omega; omega; omega) | (with_reducible refine zb_eqL ?_ ?_ ?_ ?_ (fun _ => ?_) (fun _ => ?_); omega; omega; omega; omega) | (with_reducible refine zb_nz ?_ ?_ ?_ ?_; omega; omega; omega) | (with_reducible refine zb_nzL ?_ ?_ ?_ ?_; omega; omega; omega) | with_reducible refine zb_ite ?_ | with_reducible refine zb_iteL ?_ | ((with_reducible intro y hy); subst hy; try simp only [zl32, zl64, i32_add, i32_sub, i32_mul, i32_neg, i64_add, i64_sub, i64_mul, i64_neg, cv_gi, cv_gw, cv_ga, cv_gl, cv_pi, cv_pw, cv_pa, cv_pl, zf_S, zf_i, zf_l, mz1, mz2, mz3, mz4, zr_ii, zr_iw, zr_ia, zr_il, zr_wi, zr_ww, zr_wa, zr_wl, zr_ai, zr_aw, zr_aa, zr_al, zr_li, zr_lw, zr_la, zr_ll, zw_ii, zw_ww, zw_aa, zw_ll, reduceIte, Nat.reduceEqDiff, if_true, if_false]) | with_reducible refine zb_o1 ?_ | with_reducible refine zb_o2 ?_ | with_reducible refine zb_o3 ?_ | with_reducible refine zb_o4 ?_ | with_reducible refine zb_tr ?_ | exact trivial | with_reducible refine zb_T ?_ | with_reducible refine zb_sp ?_ ?_)
        refine sM_coefficient (tsl t 19 _) s k hs (by omega) _ ?_
        rw [show zslot (tsl t 19 (zov k f (tgl t 19))) s k = zslot t s k from rfl, i32_64 (by omega) (by omega)]
        refine sM_number (tsl t 19 _) _ hP (by omega) (by omega) _ ?_
        try simp only [zl32, zl64, i32_add, i32_sub, i32_mul, i32_neg, i64_add, i64_sub, i64_mul, i64_neg, cv_gi, cv_gw, cv_ga, cv_gl, cv_pi, cv_pw, cv_pa, cv_pl, zf_S, zf_i, zf_l, mz1, mz2, mz3, mz4, zr_ii, zr_iw, zr_ia, zr_il, zr_wi, zr_ww, zr_wa, zr_wl, zr_ai, zr_aw, zr_aa, zr_al, zr_li, zr_lw, zr_la, zr_ll, zw_ii, zw_ww, zw_aa, zw_ll, reduceIte, Nat.reduceEqDiff, if_true, if_false]
        try simp (disch := omega) only [zi9, zi7, zi40, zi360, zikj, zijd, zi9o, zi7o, zip1, zip, zim1, i32_natN, ziL, zi_0, zi_1]
        repeat' (first | (exfalso; omega) | (with_reducible refine zb_in ?_ ?_ ?_ ?_; omega; omega; omega) | (with_reducible refine zb_le ?_ ?_ ?_ ?_ (fun _ => ?_) (fun _ => ?_); omega; omega; omega; omega) | (with_reducible refine zb_lt ?_ ?_ ?_ ?_ (fun _ => ?_) (fun _ => ?_); omega; omega; omega; omega) | (with_reducible refine zb_eq ?_ ?_ ?_ ?_ (fun _ => ?_) (fun _ => ?_); omega; omega; omega; omega) | (with_reducible refine zb_leL ?_ ?_ ?_ ?_ (fun _ => ?_) (fun _ => ?_); omega; omega; omega; omega) | (with_reducible refine zb_ltL ?_ ?_ ?_ ?_ (fun _ => ?_) (fun _ => ?_); omega; omega; omega; omega) | (with_reducible refine zb_eqL ?_ ?_ ?_ ?_ (fun _ => ?_) (fun _ => ?_); omega; omega; omega; omega) | (with_reducible refine zb_nz ?_ ?_ ?_ ?_; omega; omega; omega) | (with_reducible refine zb_nzL ?_ ?_ ?_ ?_; omega; omega; omega) | with_reducible refine zb_ite ?_ | with_reducible refine zb_iteL ?_ | ((with_reducible intro y hy); subst hy; try simp only [zl32, zl64, i32_add, i32_sub, i32_mul, i32_neg, i64_add, i64_sub, i64_mul, i64_neg, cv_gi, cv_gw, cv_ga, cv_gl, cv_pi, cv_pw, cv_pa, cv_pl, zf_S, zf_i, zf_l, mz1, mz2, mz3, mz4, zr_ii, zr_iw, zr_ia, zr_il, zr_wi, zr_ww, zr_wa, zr_wl, zr_ai, zr_aw, zr_aa, zr_al, zr_li, zr_lw, zr_la, zr_ll, zw_ii, zw_ww, zw_aa, zw_ll, reduceIte, Nat.reduceEqDiff, if_true, if_false]) | with_reducible refine zb_o1 ?_ | with_reducible refine zb_o2 ?_ | with_reducible refine zb_o3 ?_ | with_reducible refine zb_o4 ?_ | with_reducible refine zb_tr ?_ | exact trivial | with_reducible refine zb_T ?_ | with_reducible refine zb_sp ?_ ?_)
        rw [show zslot t s k % tgw t = f k by rw [hf]; unfold zpoly; rw [if_pos (by omega)]]
        exact e
    have e := L 9 0 rfl
    rw [zov_0, zw_l0] at e
    exact ⟨10, e⟩
  · try simp only [zl32, zl64, i32_add, i32_sub, i32_mul, i32_neg, i64_add, i64_sub, i64_mul, i64_neg, cv_gi, cv_gw, cv_ga, cv_gl, cv_pi, cv_pw, cv_pa, cv_pl, zf_S, zf_i, zf_l, mz1, mz2, mz3, mz4]
    repeat' (first | (exfalso; omega) | (with_reducible refine zb_in ?_ ?_ ?_ ?_; omega; omega; omega) | (with_reducible refine zb_le ?_ ?_ ?_ ?_ (fun _ => ?_) (fun _ => ?_); omega; omega; omega; omega) | (with_reducible refine zb_lt ?_ ?_ ?_ ?_ (fun _ => ?_) (fun _ => ?_); omega; omega; omega; omega) | (with_reducible refine zb_eq ?_ ?_ ?_ ?_ (fun _ => ?_) (fun _ => ?_); omega; omega; omega; omega) | (with_reducible refine zb_leL ?_ ?_ ?_ ?_ (fun _ => ?_) (fun _ => ?_); omega; omega; omega; omega) | (with_reducible refine zb_ltL ?_ ?_ ?_ ?_ (fun _ => ?_) (fun _ => ?_); omega; omega; omega; omega) | (with_reducible refine zb_eqL ?_ ?_ ?_ ?_ (fun _ => ?_) (fun _ => ?_); omega; omega; omega; omega) | (with_reducible refine zb_nz ?_ ?_ ?_ ?_; omega; omega; omega) | (with_reducible refine zb_nzL ?_ ?_ ?_ ?_; omega; omega; omega) | with_reducible refine zb_ite ?_ | with_reducible refine zb_iteL ?_ | ((with_reducible intro y hy); subst hy; try simp only [zl32, zl64, i32_add, i32_sub, i32_mul, i32_neg, i64_add, i64_sub, i64_mul, i64_neg, cv_gi, cv_gw, cv_ga, cv_gl, cv_pi, cv_pw, cv_pa, cv_pl, zf_S, zf_i, zf_l, mz1, mz2, mz3, mz4, zr_ii, zr_iw, zr_ia, zr_il, zr_wi, zr_ww, zr_wa, zr_wl, zr_ai, zr_aw, zr_aa, zr_al, zr_li, zr_lw, zr_la, zr_ll, zw_ii, zw_ww, zw_aa, zw_ll, reduceIte, Nat.reduceEqDiff, if_true, if_false]) | with_reducible refine zb_o1 ?_ | with_reducible refine zb_o2 ?_ | with_reducible refine zb_o3 ?_ | with_reducible refine zb_o4 ?_ | with_reducible refine zb_tr ?_ | exact trivial | with_reducible refine zb_T ?_ | with_reducible refine zb_sp ?_ ?_)
    exact h0 hm
