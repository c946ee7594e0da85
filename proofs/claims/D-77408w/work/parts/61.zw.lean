/-! PURE 32: the model grows what is below a knot, to the end -/
set_option maxRecDepth 100000
theorem sM_step_pop (t : tS) (f : Nat → Int) (T : zT) (pa : zP) (m : Nat) (hT : zTR t f T) (hx : T.1[zpA pa (zpL pa)]? = some (pa, m)) (hst : zStk t (zpL pa) (zpA pa (zpL pa)) (zhull (zpts (tgw t) (tgi t 0) pa f m) m).length 0) (hk : T.1.length ≤ 24) (Q : mS → Prop) (h : Q (cv (tpi t 61 ((zpL pa : Int) - 1)))) : wM_steps (cv t) Q := by
  obtain ⟨hK, hW, hM, hg, hm28, hanc, hknl, hKn⟩ := hT.at hx
  have hL6 := hg.1.2.1
  have hL1 := hg.1.1
  obtain ⟨s1, s2, s3, s4⟩ := hst
  obtain ⟨n1, n2, n3, n4, n5, n6, n7⟩ := hKn
  have hhl := (zhull_ok (pts := zpts (tgw t) (tgi t 0) pa f m) (m := m)).2
  unfold wM_steps
  try simp only [zl32, zl64, i32_add, i32_sub, i32_mul, i32_neg, i64_add, i64_sub, i64_mul, i64_neg, cv_gi, cv_gw, cv_ga, cv_gl, cv_pi, cv_pw, cv_pa, cv_pl, zf_S, zf_i, zf_l, mz1, mz2, mz3, mz4, zr_ii, zr_iw, zr_ia, zr_il, zr_wi, zr_ww, zr_wa, zr_wl, zr_ai, zr_aw, zr_aa, zr_al, zr_li, zr_lw, zr_la, zr_ll, zw_ii, zw_ww, zw_aa, zw_ll, reduceIte, Nat.reduceEqDiff, if_true, if_false]
  rw [s1]
  try simp (disch := omega) only [zi9, zi7, zi40, zi360, zikj, zijd, zi9o, zi7o, zip1, zip, zim1, i32_natN, ziL, zi_0, zi_1]
  rw [s2]
  try simp (disch := omega) only [zi9, zi7, zi40, zi360, zikj, zijd, zi9o, zi7o, zip1, zip, zim1, i32_natN, ziL, zi_0, zi_1]
  rw [s3, n5]
  repeat' (first | (exfalso; omega) | (with_reducible refine zb_in ?_ ?_ ?_ ?_; omega; omega; omega) | (with_reducible refine zb_le ?_ ?_ ?_ ?_ (fun _ => ?_) (fun _ => ?_); omega; omega; omega; omega) | (with_reducible refine zb_lt ?_ ?_ ?_ ?_ (fun _ => ?_) (fun _ => ?_); omega; omega; omega; omega) | (with_reducible refine zb_eq ?_ ?_ ?_ ?_ (fun _ => ?_) (fun _ => ?_); omega; omega; omega; omega) | (with_reducible refine zb_leL ?_ ?_ ?_ ?_ (fun _ => ?_) (fun _ => ?_); omega; omega; omega; omega) | (with_reducible refine zb_ltL ?_ ?_ ?_ ?_ (fun _ => ?_) (fun _ => ?_); omega; omega; omega; omega) | (with_reducible refine zb_eqL ?_ ?_ ?_ ?_ (fun _ => ?_) (fun _ => ?_); omega; omega; omega; omega) | (with_reducible refine zb_nz ?_ ?_ ?_ ?_; omega; omega; omega) | (with_reducible refine zb_nzL ?_ ?_ ?_ ?_; omega; omega; omega) | with_reducible refine zb_ite ?_ | with_reducible refine zb_iteL ?_ | ((with_reducible intro y hy); subst hy; try simp only [zl32, zl64, i32_add, i32_sub, i32_mul, i32_neg, i64_add, i64_sub, i64_mul, i64_neg, cv_gi, cv_gw, cv_ga, cv_gl, cv_pi, cv_pw, cv_pa, cv_pl, zf_S, zf_i, zf_l, mz1, mz2, mz3, mz4, zr_ii, zr_iw, zr_ia, zr_il, zr_wi, zr_ww, zr_wa, zr_wl, zr_ai, zr_aw, zr_aa, zr_al, zr_li, zr_lw, zr_la, zr_ll, zw_ii, zw_ww, zw_aa, zw_ll, reduceIte, Nat.reduceEqDiff, if_true, if_false]) | with_reducible refine zb_o1 ?_ | with_reducible refine zb_o2 ?_ | with_reducible refine zb_o3 ?_ | with_reducible refine zb_o4 ?_ | with_reducible refine zb_tr ?_ | exact trivial | with_reducible refine zb_T ?_ | with_reducible refine zb_sp ?_ ?_)
  exact h
theorem zsd_pre {G : zP → Nat → zT → zT} (hG : ∀ pa m T, zPre T (G pa m T)) (M p : Int) (f : Nat → Int) (pa : zP) (m : Nat) (T : zT) (x : Nat × Nat) : zPre T (zsd G M p f pa m T x) := by
  unfold zsd
  exact foldl_pre (fun T fa => zch_pre hG M p pa _ T fa) _ _
theorem zsim_sides {M p : Int} (hp : zpr p) (hM : 0 < M) (hM2 : M < 536870912) {f : Nat → Int} (hf : zred M 9 f) {d : Nat} (hS : zSim M p f d) {pa : zP} (hg : zGood M p pa) (hLd : zpL pa + 1 + d = 7) {m : Nat} (hm2 : 2 ≤ m) (hm8 : m ≤ 8) (hme : m * zpD pa (zpL pa) ≤ 8) :
    ∀ (xs pre : List (Nat × Nat)), zhull (zpts M p pa f m) m = pre ++ xs → ∀ T : zT, T.1[zpA pa (zpL pa)]? = some (pa, m) → zCap M p f (zwd xs * zpD pa (zpL pa)) d T →
      ∃ cnt : Nat, ∀ (Q : Int32 → mS → Prop) (n0 : Nat) (t0 u : tS), zQ t0 M p f T u → zStk u (zpL pa) (zpA pa (zpL pa)) pre.length 0 → (∀ v, zQ t0 M p f (xs.foldl (zsd (zGk M p f d) M p f pa m) T) v → zStk v (zpL pa) (zpA pa (zpL pa)) (zhull (zpts M p pa f m) m).length 0 → zLow (zpL pa) u v → zRun Q n0 v) → zRun Q (n0 + cnt) u := by
  have hG := zGk_bd hp hM hM2 hf d (zpL pa + 1) hLd
  intro xs
  induction xs with
  | nil =>
    intro pre he T hx hc
    refine ⟨0, fun Q n0 t0 u hq hst hend => ?_⟩
    rw [List.append_nil] at he
    exact hend u hq (by rw [he]; exact hst) (fun q _ => ⟨rfl, rfl, rfl⟩)
  | cons x xs ih =>
    intro pre he T hx hc
    have hj : (zhull (zpts M p pa f m) m)[pre.length]? = some x := by
      rw [he, List.getElem?_append, if_neg (by omega), Nat.sub_self]
      rfl
    have hsf := zSf_of x (List.mem_of_getElem? hj)
    obtain ⟨r1, r2, r3, r4⟩ := zfac_ok hp hM hM2 hg hf hm8 hsf
    have g3 := (zgd_ok hsf.1 hsf.2.2.2).2.2.1
    have hc' : zCap M p f ((x.2 - x.1) * zpD pa (zpL pa) + zwd xs * zpD pa (zpL pa)) d T := by
      rw [← Nat.add_mul]
      exact hc
    have hbd := zsd_bd hp hM hM2 hf hG hg hm8 hme hsf T
    obtain ⟨c2, hc2⟩ := ih (pre ++ [x]) (by rw [List.append_assoc]; exact he) (zsd (zGk M p f d) M p f pa m T x) (zsd_pre (zGk_pre M p f d) M p f pa m T x _ _ hx) (hc'.next hbd)
    have hcf : zCap M p f (zsum (zFc p (zside M p pa f (zpts M p pa f m) x).2.2.2.2.2.2.2) * (zrm (zpts M p pa f m) x.1 x.2 * zpD pa (zpL pa))) d T := by
      refine hc'.mono ?_
      rw [← g3, Nat.mul_assoc]
      have := Nat.mul_le_mul_right (zrm (zpts M p pa f m) x.1 x.2 * zpD pa (zpL pa)) r3
      omega
    obtain ⟨c1, hc1⟩ := zsim_fac hp hM hM2 hf hS hg hLd hm2 hm8 hme hj _ [] (List.nil_append _).symm T hx hcf
    refine ⟨c2 + c1, fun Q n0 t0 u hq hst hend => ?_⟩
    rw [← Nat.add_assoc]
    refine hc1 Q (n0 + c2) t0 u hq hst (fun v v1 v2 v3 => ?_)
    refine hc2 Q n0 t0 v v1 (by rw [List.length_append, List.length_singleton]; exact v2) (fun w w1 w2 w3 => hend w w1 w2 (v3.trans w3 (Nat.le_refl _)))
theorem zSim_all {M p : Int} (hp : zpr p) (hM : 0 < M) (hM2 : M < 536870912) {f : Nat → Int} (hf : zred M 9 f) : ∀ d : Nat, zSim M p f d := by
  intro d
  induction d with
  | zero =>
    intro pa m T hg hL
    have := hg.1.2.1
    omega
  | succ d ih =>
    intro pa m T hg hL hm2 hm8 hme hA hc
    have hL1 := hg.1.1
    have hL6 := hg.1.2.1
    have hD := hg.1.D (k := zpL pa) hL1 (Nat.le_refl _)
    have hwd := zhull_wd (pts := zpts M p pa f m) (m := m)
    have hln := (zhull_ok (pts := zpts M p pa f m) (m := m)).2
    have hl0 := zleaf0_len pa (zfst (zpts M p pa f m) m) (zpA pa (zpL pa))
    have f1 : (zst0 M p f pa m T).1.length = T.1.length + 1 := by
      show (T.1 ++ [(pa, m)]).length = _
      rw [List.length_append, List.length_singleton]
    have f2 : zso M p f (zst0 M p f pa m T).1 = zso M p f T.1 + (zhull (zpts M p pa f m) m).length := by
      show zso M p f (T.1 ++ [(pa, m)]) = _
      rw [zso_app]
      rfl
    have f3 : (zst0 M p f pa m T).2.length = T.2.length + (zleaf0 pa (zfst (zpts M p pa f m) m) (zpA pa (zpL pa))).length := by
      show (T.2 ++ _).length = _
      rw [List.length_append]
    have a1 : zwd (zhull (zpts M p pa f m) m) * zpD pa (zpL pa) * d ≤ m * zpD pa (zpL pa) * d := Nat.mul_le_mul_right _ (Nat.mul_le_mul_right _ (by omega))
    have a2 : m ≤ m * zpD pa (zpL pa) := Nat.le_mul_of_pos_right _ hD.1
    have a3 : (zwd (zhull (zpts M p pa f m) m) + zfst (zpts M p pa f m) m) * zpD pa (zpL pa) ≤ m * zpD pa (zpL pa) := Nat.mul_le_mul_right _ hwd
    rw [Nat.add_mul] at a3
    have a4 : zfst (zpts M p pa f m) m ≤ zfst (zpts M p pa f m) m * zpD pa (zpL pa) := Nat.le_mul_of_pos_right _ hD.1
    obtain ⟨c1, c2, c3⟩ := hc
    rw [Nat.mul_add, Nat.mul_one] at c1 c2
    have hcap : zCap M p f (zwd (zhull (zpts M p pa f m) m) * zpD pa (zpL pa)) d (zst0 M p f pa m T) := ⟨by rw [f1]; omega, by rw [f2]; omega, by rw [f3]; omega⟩
    have hget : (zst0 M p f pa m T).1[zpA pa (zpL pa)]? = some (pa, m) := by
      show (T.1 ++ [(pa, m)])[_]? = _
      rw [hA, List.getElem?_append, if_neg (by omega), Nat.sub_self]
      rfl
    obtain ⟨cnt, hcnt⟩ := zsim_sides hp hM hM2 hf ih hg (by omega) hm2 hm8 hme _ [] (List.nil_append _).symm (zst0 M p f pa m T) hget hcap
    have hG := zGk_bd hp hM hM2 hf d (zpL pa + 1) (by omega)
    have hbe := zsds_bd hp hM hM2 hf hG hg hm8 hme (zhull (zpts M p pa f m) m) zSf_of (zst0 M p f pa m T)
    have hpre := foldl_pre (F := zsd (zGk M p f d) M p f pa m) (fun T x => zsd_pre (zGk_pre M p f d) M p f pa m T x) (zhull (zpts M p pa f m) m) (zst0 M p f pa m T)
    refine ⟨1 + cnt, fun Q n0 t0 u hq hst hend => ?_⟩
    rw [← Nat.add_assoc]
    refine hcnt Q (n0 + 1) t0 u hq (by rw [hA]; exact hst) (fun v v1 v2 v3 => ?_)
    obtain ⟨q1, q2, q3, q4⟩ := v1
    refine zRun_step (by rw [v2.1]; omega) (by rw [v2.1]; omega) ?_
    refine sM_step_pop v f _ pa m q3 (hpre _ _ hget) (by rw [q1, q2]; exact v2) ?_ _ ?_
    · have := hbe.1
      rw [f1] at this
      omega
    · have fz : zfr [61] [] [] v (tpi v 61 ((zpL pa : Int) - 1)) := zfr_pi (zfr.refl v) (by decide)
      refine hend _ ⟨q1, q2, ?_, q4.trans (zGr.of fz (by decide) (by decide) (by decide))⟩ (by try simp only [zl32, zl64, i32_add, i32_sub, i32_mul, i32_neg, i64_add, i64_sub, i64_mul, i64_neg, cv_gi, cv_gw, cv_ga, cv_gl, cv_pi, cv_pw, cv_pa, cv_pl, zf_S, zf_i, zf_l, mz1, mz2, mz3, mz4, zr_ii, zr_iw, zr_ia, zr_il, zr_wi, zr_ww, zr_wa, zr_wl, zr_ai, zr_aw, zr_aa, zr_al, zr_li, zr_lw, zr_la, zr_ll, zw_ii, zw_ww, zw_aa, zw_ll, reduceIte, Nat.reduceEqDiff, if_true, if_false]) (fun q hq => v3 q hq)
      exact q3.moved fz (by decide) (by decide) (by decide) (by decide) (by decide) (fun k a b => by simp) (by decide) (by decide)
