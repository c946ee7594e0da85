/-! PURE 31: the model grows what is below a knot, all of it -/
set_option maxRecDepth 100000
theorem zTR.keep {u : tS} {f : Nat → Int} {T : zT} {kn : Nat} {y : zP × Nat} (h : T.1[kn]? = some y) (x : zP × Nat) : (T.1 ++ [x])[kn]? = some y := by
  rw [List.getElem?_append, if_pos (List.getElem?_eq_some_iff.mp h).1]
  exact h
/-- growing only puts behind -/
def zPre (T T' : zT) : Prop := ∀ (i : Nat) (y : zP × Nat), T.1[i]? = some y → T'.1[i]? = some y
theorem zPre.refl (T : zT) : zPre T T := fun _ _ h => h
theorem zPre.trans {T T' T'' : zT} (h : zPre T T') (h' : zPre T' T'') : zPre T T'' := fun i y q => h' i y (h i y q)
theorem zst0_pre (M p : Int) (f : Nat → Int) (pa : zP) (m : Nat) (T : zT) : zPre T (zst0 M p f pa m T) := by
  intro i y h
  show (T.1 ++ [(pa, m)])[i]? = some y
  rw [List.getElem?_append, if_pos (List.getElem?_eq_some_iff.mp h).1]
  exact h
theorem foldl_pre {α : Type} {F : zT → α → zT} (hF : ∀ T a, zPre T (F T a)) : ∀ (xs : List α) (T : zT), zPre T (xs.foldl F T) := by
  intro xs
  induction xs with
  | nil => intro T; exact zPre.refl T
  | cons x xs ih => intro T; exact (hF T x).trans (ih (F T x))
theorem zch_pre {G : zP → Nat → zT → zT} (hG : ∀ pa m T, zPre T (G pa m T)) (M p : Int) (pa : zP) (σ : zS) (T : zT) (fa : zF) : zPre T (zch G M p pa σ T fa) := by
  unfold zch
  by_cases c1 : fa.2.1 = 1
  · rw [if_pos c1]; exact zPre.refl T
  · rw [if_neg c1]
    by_cases c2 : 1 < fa.1
    · rw [if_pos c2]; exact zPre.refl T
    · rw [if_neg c2]
      by_cases c3 : zpL pa = 6
      · rw [if_pos c3]; exact zPre.refl T
      · rw [if_neg c3]; exact hG _ _ _
theorem zGk_pre (M p : Int) (f : Nat → Int) : ∀ (d : Nat) (pa : zP) (m : Nat) (T : zT), zPre T (zGk M p f d pa m T) := by
  intro d
  induction d with
  | zero => intro pa m T; exact zPre.refl T
  | succ d ih =>
    intro pa m T
    unfold zGk
    refine (zst0_pre M p f pa m T).trans (foldl_pre (fun T x => ?_) _ _)
    unfold zsd
    exact foldl_pre (fun T fa => zch_pre ih M p pa _ T fa) _ _
/-- what running from a state on must give -/
def zRun (Q : Int32 → mS → Prop) (n : Nat) (u : tS) : Prop := wM_grow_l106 Q n (cv u)
/-- a knot that is laid grows all below it, and is left -/
def zSim (M p : Int) (f : Nat → Int) (d : Nat) : Prop := ∀ (pa : zP) (m : Nat) (T : zT), zGood M p pa → zpL pa + d = 7 → 2 ≤ m → m ≤ 8 → m * zpD pa (zpL pa) ≤ 8 → zpA pa (zpL pa) = T.1.length → zCap M p f (m * zpD pa (zpL pa)) d T →
  ∃ cnt : Nat, ∀ (Q : Int32 → mS → Prop) (n0 : Nat) (t0 u : tS), zQ t0 M p f (zst0 M p f pa m T) u → zStk u (zpL pa) T.1.length 0 0 → (∀ v, zQ t0 M p f (zGk M p f d pa m T) v → tgi v 61 = (zpL pa : Int) - 1 → zLow (zpL pa) u v → zRun Q n0 v) → zRun Q (n0 + cnt) u
theorem zRun_step {Q : Int32 → mS → Prop} {n : Nat} {u : tS} (h0 : 0 ≤ tgi u 61) (h1 : tgi u 61 < 8) (h : wM_steps (cv u) (fun σ => wM_grow_l106 Q n σ)) : zRun Q (n + 1) u := by
  unfold zRun
  rw [wM_grow_l106]
  try simp only [zl32, zl64, i32_add, i32_sub, i32_mul, i32_neg, i64_add, i64_sub, i64_mul, i64_neg, cv_gi, cv_gw, cv_ga, cv_gl, cv_pi, cv_pw, cv_pa, cv_pl, zf_S, zf_i, zf_l, mz1, mz2, mz3, mz4]
  repeat' (first | (exfalso; omega) | (with_reducible refine zb_in ?_ ?_ ?_ ?_; omega; omega; omega) | (with_reducible refine zb_le ?_ ?_ ?_ ?_ (fun _ => ?_) (fun _ => ?_); omega; omega; omega; omega) | (with_reducible refine zb_lt ?_ ?_ ?_ ?_ (fun _ => ?_) (fun _ => ?_); omega; omega; omega; omega) | (with_reducible refine zb_eq ?_ ?_ ?_ ?_ (fun _ => ?_) (fun _ => ?_); omega; omega; omega; omega) | (with_reducible refine zb_leL ?_ ?_ ?_ ?_ (fun _ => ?_) (fun _ => ?_); omega; omega; omega; omega) | (with_reducible refine zb_ltL ?_ ?_ ?_ ?_ (fun _ => ?_) (fun _ => ?_); omega; omega; omega; omega) | (with_reducible refine zb_eqL ?_ ?_ ?_ ?_ (fun _ => ?_) (fun _ => ?_); omega; omega; omega; omega) | (with_reducible refine zb_nz ?_ ?_ ?_ ?_; omega; omega; omega) | (with_reducible refine zb_nzL ?_ ?_ ?_ ?_; omega; omega; omega) | with_reducible refine zb_ite ?_ | with_reducible refine zb_iteL ?_ | ((with_reducible intro y hy); subst hy; try simp only [zl32, zl64, i32_add, i32_sub, i32_mul, i32_neg, i64_add, i64_sub, i64_mul, i64_neg, cv_gi, cv_gw, cv_ga, cv_gl, cv_pi, cv_pw, cv_pa, cv_pl, zf_S, zf_i, zf_l, mz1, mz2, mz3, mz4, zr_ii, zr_iw, zr_ia, zr_il, zr_wi, zr_ww, zr_wa, zr_wl, zr_ai, zr_aw, zr_aa, zr_al, zr_li, zr_lw, zr_la, zr_ll, zw_ii, zw_ww, zw_aa, zw_ll, reduceIte, Nat.reduceEqDiff, if_true, if_false]) | with_reducible refine zb_o1 ?_ | with_reducible refine zb_o2 ?_ | with_reducible refine zb_o3 ?_ | with_reducible refine zb_o4 ?_ | with_reducible refine zb_tr ?_ | exact trivial | with_reducible refine zb_T ?_ | with_reducible refine zb_sp ?_ ?_)
  exact h
/-- the factors of a side that are left -/
theorem zsim_fac {M p : Int} (hp : zpr p) (hM : 0 < M) (hM2 : M < 536870912) {f : Nat → Int} (hf : zred M 9 f) {d : Nat} (hS : zSim M p f d) {pa : zP} (hg : zGood M p pa) (hLd : zpL pa + 1 + d = 7) {m : Nat} (hm2 : 2 ≤ m) (hm8 : m ≤ 8) (hme : m * zpD pa (zpL pa) ≤ 8) {x : Nat × Nat} {j : Nat} (hj : (zhull (zpts M p pa f m) m)[j]? = some x) :
    ∀ (gs pre : List zF), zFc p (zside M p pa f (zpts M p pa f m) x).2.2.2.2.2.2.2 = pre ++ gs → ∀ T : zT, T.1[zpA pa (zpL pa)]? = some (pa, m) → zCap M p f (zsum gs * (zrm (zpts M p pa f m) x.1 x.2 * zpD pa (zpL pa))) d T →
      ∃ cnt : Nat, ∀ (Q : Int32 → mS → Prop) (n0 : Nat) (t0 u : tS), zQ t0 M p f T u → zStk u (zpL pa) (zpA pa (zpL pa)) j pre.length → (∀ v, zQ t0 M p f (gs.foldl (zch (zGk M p f d) M p pa (zside M p pa f (zpts M p pa f m) x)) T) v → zStk v (zpL pa) (zpA pa (zpL pa)) (j + 1) 0 → zLow (zpL pa) u v → zRun Q n0 v) → zRun Q (n0 + cnt) u := by
  have hsf := zSf_of x (List.mem_of_getElem? hj)
  obtain ⟨r1, r2, r3, r4⟩ := zfac_ok hp hM hM2 hg hf hm8 hsf
  have hL1 := hg.1.1
  have hL6 := hg.1.2.1
  have hG := zGk_bd hp hM hM2 hf d (zpL pa + 1) hLd
  intro gs
  induction gs with
  | nil =>
    intro pre he T hx hc
    refine ⟨1, fun Q n0 t0 u hq hst hend => ?_⟩
    obtain ⟨q1, q2, q3, q4⟩ := hq
    obtain ⟨c1, c2, c3⟩ := hc
    rw [List.append_nil] at he
    refine zRun_step (by rw [hst.1]; omega) (by rw [hst.1]; omega) ?_
    refine sM_step_side u f T pa m j pre.length x (zGk M p f d) q3 hx hst hme (by rw [q1, q2]; exact hj) (by rw [q1, q2]; omega) (by omega) (by omega) (by rw [q1, q2, he]; omega) _ (fun _ w g1 w1 w2 w3 w4 w5 => hend w ⟨w1.trans q1, w2.trans q2, w3, q4.trans g1⟩ w4 w5) (fun fa hfa => ?_) (fun fa hfa => ?_)
    · rw [q1, q2, he, List.getElem?_eq_none (Nat.le_refl _)] at hfa
      cases hfa
    · rw [q1, q2, he, List.getElem?_eq_none (Nat.le_refl _)] at hfa
      cases hfa
  | cons fa gs ih =>
    intro pre he T hx hc
    have hmem : fa ∈ zFc p (zside M p pa f (zpts M p pa f m) x).2.2.2.2.2.2.2 := by rw [he]; exact List.mem_append.mpr (Or.inr List.mem_cons_self)
    have hfac := r4 fa hmem
    have hsum : zsum (fa :: gs) ≤ zgd (zpts M p pa f m) x.1 x.2 := by
      rw [he, zsum_app] at r3
      omega
    have hsum2 : fa.1 * fa.2.1 + zsum gs ≤ zgd (zpts M p pa f m) x.1 x.2 := hsum
    have hbd := zch_bd hp hM hG hg hm8 hme hsf fa hfac (by omega) T
    have hc' : zCap M p f (fa.1 * fa.2.1 * (zrm (zpts M p pa f m) x.1 x.2 * zpD pa (zpL pa)) + zsum gs * (zrm (zpts M p pa f m) x.1 x.2 * zpD pa (zpL pa))) d T := by
      rw [← Nat.add_mul]
      exact hc
    have hcn := hc'.next hbd
    have hpre := zch_pre (zGk_pre M p f d) M p pa (zside M p pa f (zpts M p pa f m) x) T fa
    obtain ⟨cnt, hcnt⟩ := ih (pre ++ [fa]) (by rw [List.append_assoc]; exact he) (zch (zGk M p f d) M p pa (zside M p pa f (zpts M p pa f m) x) T fa) (hpre _ _ hx) hcn
    have hget : (zFc p (zside M p pa f (zpts M p pa f m) x).2.2.2.2.2.2.2)[pre.length]? = some fa := by
      rw [he, List.getElem?_append, if_neg (by omega), Nat.sub_self]
      rfl
    have hlen : (pre ++ [fa]).length = pre.length + 1 := by rw [List.length_append, List.length_singleton]
    have hpl : pre.length ≤ (zFc p (zside M p pa f (zpts M p pa f m) x).2.2.2.2.2.2.2).length := by
      rw [he, List.length_append]
      omega
    obtain ⟨c1, c2, c3⟩ := hc
    by_cases hleaf : fa.2.1 = 1 ∨ 1 < fa.1 ∨ zpL pa = 6
    · refine ⟨cnt + 1, fun Q n0 t0 u hq hst hend => ?_⟩
      obtain ⟨q1, q2, q3, q4⟩ := hq
      rw [← Nat.add_assoc]
      refine zRun_step (by rw [hst.1]; omega) (by rw [hst.1]; omega) ?_
      refine sM_step_side u f T pa m j pre.length x (zGk M p f d) q3 hx hst hme (by rw [q1, q2]; exact hj) (by rw [q1, q2]; omega) (by omega) (by omega) (by rw [q1, q2]; exact hpl) _ (fun e => ?_) (fun fb hfb _ w g1 w1 w2 w3 w4 w5 => ?_) (fun fb hfb hno => ?_)
      · rw [q1, q2, he, List.length_append, List.length_cons] at e
        omega
      · rw [q1, q2, hget] at hfb
        cases hfb
        rw [q1, q2] at w3
        refine hcnt Q n0 t0 w ⟨w1.trans q1, w2.trans q2, w3, q4.trans g1⟩ (by rw [hlen]; exact w4) (fun v v1 v2 v3 => hend v v1 v2 (w5.trans v3 (Nat.le_refl _)))
      · rw [q1, q2, hget] at hfb
        cases hfb
        exact absurd hleaf hno
    · -- a knot below
      have hL : zpL pa < 6 := by omega
      have hf1 : fa.1 = 1 := by have := hfac.1.1; omega
      have ht2 : 2 ≤ fa.2.1 := by have := hfac.1.2; omega
      obtain ⟨pa', hpa'⟩ : ∃ pa', pa' = zext pa T.1.length (znk M p pa (zrm (zpts M p pa f m) x.1 x.2) (zvm pa (zsl pa (zpts M p pa f m) x.1 x.2)) (zroot p fa)) (zrm (zpts M p pa f m) x.1 x.2) (zsl pa (zpts M p pa f m) x.1 x.2) (zroot p fa) (zvm pa (zsl pa (zpts M p pa f m) x.1 x.2)) := ⟨_, rfl⟩
      have hz : zch (zGk M p f d) M p pa (zside M p pa f (zpts M p pa f m) x) T fa = zGk M p f d pa' fa.2.1 T := by
        unfold zch
        rw [if_neg (by omega), if_neg (by omega), if_neg (by omega), hpa']
        rfl
      have hpaL : zpL pa' = zpL pa + 1 := by rw [hpa']; rfl
      have hpaA : zpA pa' (zpL pa') = T.1.length := by
        rw [hpa']
        show (if zpL pa + 1 = zpL pa + 1 then _ else _) = _
        rw [if_pos rfl]
      have hpaD : zpD pa' (zpL pa') = zpD pa (zpL pa) * zrm (zpts M p pa f m) x.1 x.2 := by
        rw [hpaL, hpa', zext_DL _ _ _ _ _ _ _ hL1]
      have g3 := (zgd_ok hsf.1 hsf.2.2.2).2.2.1
      have hw1 : fa.2.1 * zrm (zpts M p pa f m) x.1 x.2 ≤ m := by
        have a : fa.2.1 ≤ zgd (zpts M p pa f m) x.1 x.2 := by rw [hf1, Nat.one_mul] at hsum2; omega
        have : fa.2.1 * zrm (zpts M p pa f m) x.1 x.2 ≤ zgd (zpts M p pa f m) x.1 x.2 * zrm (zpts M p pa f m) x.1 x.2 := Nat.mul_le_mul_right _ a
        have := hsf.2.1
        omega
      have hw2 : fa.2.1 * (zpD pa (zpL pa) * zrm (zpts M p pa f m) x.1 x.2) ≤ 8 := by
        have : fa.2.1 * zrm (zpts M p pa f m) x.1 x.2 * zpD pa (zpL pa) ≤ m * zpD pa (zpL pa) := Nat.mul_le_mul_right _ hw1
        rw [Nat.mul_comm (zpD pa (zpL pa)), ← Nat.mul_assoc]
        omega
      have hw3 : zpD pa (zpL pa) * zrm (zpts M p pa f m) x.1 x.2 ≤ 4 := by
        have : 2 * (zpD pa (zpL pa) * zrm (zpts M p pa f m) x.1 x.2) ≤ fa.2.1 * (zpD pa (zpL pa) * zrm (zpts M p pa f m) x.1 x.2) := Nat.mul_le_mul_right _ ht2
        omega
      have ht8 : fa.2.1 ≤ 8 := by
        have := (zgd_ok hsf.1 hsf.2.2.2).2.1
        have := hsf.2.1
        rw [hf1, Nat.one_mul] at hsum2
        omega
      have gd : zGood M p pa' := by
        rw [hpa']
        exact zchild_good hp hM hg hL hm8 hsf.1 hsf.2.2.1 hsf.2.2.2 T.1.length (znk_red hM) hfac.2 hw3
      have hcc : zCap M p f (fa.2.1 * zpD pa' (zpL pa')) d T := by
        refine hc'.mono ?_
        rw [hpaD, hf1, Nat.one_mul, Nat.mul_comm (zpD pa (zpL pa))]
        omega
      obtain ⟨cnt2, hcnt2⟩ := hS pa' fa.2.1 T gd (by omega) ht2 ht8 (by rw [hpaD]; exact hw2) hpaA hcc
      refine ⟨cnt + cnt2 + 1, fun Q n0 t0 u hq hst hend => ?_⟩
      obtain ⟨q1, q2, q3, q4⟩ := hq
      rw [← Nat.add_assoc]
      refine zRun_step (by rw [hst.1]; omega) (by rw [hst.1]; omega) ?_
      refine sM_step_side u f T pa m j pre.length x (zGk M p f d) q3 hx hst hme (by rw [q1, q2]; exact hj) (by rw [q1, q2]; omega) (by omega) (by omega) (by rw [q1, q2]; exact hpl) _ (fun e => ?_) (fun fb hfb hlf => ?_) (fun fb hfb _ w pb hpb gdb t2 t8 tb g1 w1 w2 w3 w4 w5 w6 => ?_)
      · rw [q1, q2, he, List.length_append, List.length_cons] at e
        omega
      · rw [q1, q2, hget] at hfb
        cases hfb
        exact absurd hlf hleaf
      · rw [q1, q2, hget] at hfb
        cases hfb
        rw [q1, q2, ← hpa'] at hpb
        subst hpb
        rw [q1, q2] at w3
        have w5' : tgi w 61 = (zpL pa : Int) + 1 ∧ tga w 58 (zpL pa) = (zpA pa (zpL pa) : Int) ∧ tga w 59 (zpL pa) = (j : Int) ∧ tga w 60 (zpL pa) = (pre.length : Int) + 1 := by
          rcases w5 with w5 | w5
          · have a := w5.1
            have b := w4.1
            omega
          · exact w5
        have key : zRun Q (n0 + cnt + cnt2) w := by
          refine hcnt2 Q (n0 + cnt) t0 w ⟨w1.trans q1, w2.trans q2, w3, q4.trans g1⟩ (by rw [hpaL]; exact w4) (fun v v1 v2 v3 => ?_)
          rw [hpaL] at v2 v3
          rw [← hz] at v1
          have l := v3 (zpL pa) (by omega)
          refine hcnt Q n0 t0 v v1 ⟨by rw [v2]; omega, by rw [l.1]; exact w5'.2.1, by rw [l.2.1]; exact w5'.2.2.1, by rw [l.2.2, w5'.2.2.2, hlen]; omega⟩ (fun z z1 z2 z3 => hend z z1 z2 ?_)
          exact (w6.trans (fun q hq => v3 q (by omega) : zLow (zpL pa) w v) (Nat.le_refl _)).trans z3 (Nat.le_refl _)
        rw [Nat.add_assoc] at key
        exact key
