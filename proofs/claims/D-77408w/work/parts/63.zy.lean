/-! PURE 34: leaves are small; spelling; the model's grow -/
set_option maxRecDepth 100000
def zlok (x : zL) : Prop := 0 ≤ x.1 ∧ x.1 ≤ 4 ∧ 0 ≤ x.2.1 ∧ x.2.1 ≤ 8 ∧ 0 ≤ x.2.2.1 ∧ x.2.2.1 ≤ 8 ∧ 0 ≤ x.2.2.2.1 ∧ x.2.2.2.1 ≤ 8
def zLok (T : zT) : Prop := ∀ l, l ∈ T.2 → zlok l
theorem zLok.add {T : zT} (h : zLok T) {ls : List zL} (hl : ∀ l, l ∈ ls → zlok l) : zLok (T.1, T.2 ++ ls) := by
  intro l q
  rcases List.mem_append.mp q with q | q
  · exact h l q
  · exact hl l q
def zGl (G : zP → Nat → zT → zT) (M p : Int) (L : Nat) : Prop := ∀ pa m T, zGood M p pa → zpL pa = L → 2 ≤ m → m ≤ 8 → m * zpD pa (zpL pa) ≤ 8 → zLok T → zLok (G pa m T)
theorem zch_lok {G : zP → Nat → zT → zT} {M p : Int} (hp : zpr p) (hM : 0 < M) {f : Nat → Int} {pa : zP} (hG : zGl G M p (zpL pa + 1)) (hg : zGood M p pa) {m : Nat} (hm8 : m ≤ 8) (hme : m * zpD pa (zpL pa) ≤ 8) {x : Nat × Nat} (hx : zSf M p f pa m x) (fa : zF) (hfa : zfok fa ∧ 0 < zroot p fa ∧ zroot p fa < p) (hb : fa.1 * fa.2.1 ≤ zgd (zpts M p pa f m) x.1 x.2) (T : zT) (hT : zLok T) : zLok (zch G M p pa (zside M p pa f (zpts M p pa f m) x) T fa) := by
  obtain ⟨h1, h2, h3, h4⟩ := hx
  obtain ⟨g1, g2, g3, g4, g5, g6, g7⟩ := zgd_ok h1 h4
  have hL1 := hg.1.1
  have hD := hg.1.D (k := zpL pa) hL1 (Nat.le_refl _)
  have hre : 1 ≤ zpD pa (zpL pa) * zrm (zpts M p pa f m) x.1 x.2 := Nat.mul_pos hD.1 g4
  have hw0 : fa.1 * fa.2.1 * zrm (zpts M p pa f m) x.1 x.2 ≤ m := by
    have : fa.1 * fa.2.1 * zrm (zpts M p pa f m) x.1 x.2 ≤ zgd (zpts M p pa f m) x.1 x.2 * zrm (zpts M p pa f m) x.1 x.2 := Nat.mul_le_mul_right _ hb
    omega
  have hw1 : fa.1 * fa.2.1 * (zpD pa (zpL pa) * zrm (zpts M p pa f m) x.1 x.2) ≤ 8 := by
    have : fa.1 * fa.2.1 * zrm (zpts M p pa f m) x.1 x.2 * zpD pa (zpL pa) ≤ m * zpD pa (zpL pa) := Nat.mul_le_mul_right _ hw0
    rw [Nat.mul_comm (zpD pa (zpL pa)), ← Nat.mul_assoc]
    omega
  have f1 := hfa.1.1
  have f2 := hfa.1.2
  have a1 : fa.1 ≤ fa.1 * fa.2.1 := Nat.le_mul_of_pos_right _ f2
  have a2 : fa.2.1 ≤ fa.1 * fa.2.1 := Nat.le_mul_of_pos_left _ f1
  have b0 : zpD pa (zpL pa) * zrm (zpts M p pa f m) x.1 x.2 ≤ 8 := by
    have : 1 * (zpD pa (zpL pa) * zrm (zpts M p pa f m) x.1 x.2) ≤ fa.1 * fa.2.1 * (zpD pa (zpL pa) * zrm (zpts M p pa f m) x.1 x.2) := Nat.mul_le_mul_right _ (by omega)
    omega
  have b1 : fa.1 * (zpD pa (zpL pa) * zrm (zpts M p pa f m) x.1 x.2) ≤ 8 := Nat.le_trans (Nat.mul_le_mul_right _ a1) hw1
  have b2 : fa.2.1 * (zpD pa (zpL pa) * zrm (zpts M p pa f m) x.1 x.2) ≤ 8 := Nat.le_trans (Nat.mul_le_mul_right _ a2) hw1
  have b3 : fa.1 ≤ 8 := by
    have := (zgd_ok h1 h4).2.1
    omega
  have hkn : ¬ fa.2.1 = 1 → ¬ 1 < fa.1 → ¬ zpL pa = 6 → zLok (G (zext pa T.1.length (znk M p pa (zrm (zpts M p pa f m) x.1 x.2) (zvm pa (zsl pa (zpts M p pa f m) x.1 x.2)) (zroot p fa)) (zrm (zpts M p pa f m) x.1 x.2) (zsl pa (zpts M p pa f m) x.1 x.2) (zroot p fa) (zvm pa (zsl pa (zpts M p pa f m) x.1 x.2))) fa.2.1 T) := by
    intro c1 c2 c3
    have hL6 := hg.1.2.1
    have ht2 : 2 ≤ fa.2.1 := by omega
    have hw3 : zpD pa (zpL pa) * zrm (zpts M p pa f m) x.1 x.2 ≤ 4 := by
      have : 2 * (zpD pa (zpL pa) * zrm (zpts M p pa f m) x.1 x.2) ≤ fa.2.1 * (zpD pa (zpL pa) * zrm (zpts M p pa f m) x.1 x.2) := Nat.mul_le_mul_right _ ht2
      omega
    have ht8 : fa.2.1 ≤ 8 := by
      have := (zgd_ok h1 h4).2.1
      omega
    refine hG _ fa.2.1 T (zchild_good (f := f) (m := m) hp hM hg (by omega) hm8 h1 h3 h4 T.1.length (znk_red hM) hfa.2 hw3) rfl ht2 ht8 ?_ hT
    rw [show zpL (zext pa T.1.length (znk M p pa (zrm (zpts M p pa f m) x.1 x.2) (zvm pa (zsl pa (zpts M p pa f m) x.1 x.2)) (zroot p fa)) (zrm (zpts M p pa f m) x.1 x.2) (zsl pa (zpts M p pa f m) x.1 x.2) (zroot p fa) (zvm pa (zsl pa (zpts M p pa f m) x.1 x.2))) = zpL pa + 1 from rfl, zext_DL _ _ _ _ _ _ _ hL1]
    exact b2
  unfold zch
  rw [show (zside M p pa f (zpts M p pa f m) x).2.2.2.2.1 = zrm (zpts M p pa f m) x.1 x.2 from rfl]
  revert hre hw1 b0 b1 b2
  generalize zpD pa (zpL pa) * zrm (zpts M p pa f m) x.1 x.2 = E
  intro hre hw1 b0 b1 b2
  by_cases c1 : fa.2.1 = 1
  · rw [if_pos c1]
    refine hT.add (fun l hl => ?_)
    rw [List.mem_singleton.mp hl]
    have e : (E : Int) * (fa.1 : Int) = ((fa.1 * E : Nat) : Int) := by rw [Int.natCast_mul, Int.mul_comm]
    refine ⟨by show (0 : Int) ≤ 0; omega, by show (0 : Int) ≤ 4; omega, by show (0 : Int) ≤ E; omega, by show (E : Int) ≤ 8; omega, by show (0 : Int) ≤ fa.1; omega, by show (fa.1 : Int) ≤ 8; omega, ?_, ?_⟩
    · show (0 : Int) ≤ (E : Int) * fa.1
      rw [e]; omega
    · show (E : Int) * fa.1 ≤ 8
      rw [e]; omega
  · rw [if_neg c1]
    by_cases c2 : 1 < fa.1
    · rw [if_pos c2]
      refine hT.add (fun l hl => ?_)
      rw [List.mem_singleton.mp hl]
      have e : (fa.1 : Int) * fa.2.1 * (E : Int) = ((fa.1 * fa.2.1 * E : Nat) : Int) := by rw [Int.natCast_mul, Int.natCast_mul]
      refine ⟨by show (0 : Int) ≤ 2; omega, by show (2 : Int) ≤ 4; omega, by show (0 : Int) ≤ 0; omega, by show (0 : Int) ≤ 8; omega, by show (0 : Int) ≤ 0; omega, by show (0 : Int) ≤ 8; omega, ?_, ?_⟩
      · show (0 : Int) ≤ (fa.1 : Int) * fa.2.1 * (E : Int)
        rw [e]; omega
      · show (fa.1 : Int) * fa.2.1 * (E : Int) ≤ 8
        rw [e]; omega
    · rw [if_neg c2]
      by_cases c3 : zpL pa = 6
      · rw [if_pos c3]
        refine hT.add (fun l hl => ?_)
        rw [List.mem_singleton.mp hl]
        have e : (fa.2.1 : Int) * (E : Int) = ((fa.2.1 * E : Nat) : Int) := by rw [Int.natCast_mul]
        refine ⟨by show (0 : Int) ≤ 3; omega, by show (3 : Int) ≤ 4; omega, by show (0 : Int) ≤ 0; omega, by show (0 : Int) ≤ 8; omega, by show (0 : Int) ≤ 0; omega, by show (0 : Int) ≤ 8; omega, ?_, ?_⟩
        · show (0 : Int) ≤ (fa.2.1 : Int) * (E : Int)
          rw [e]; omega
        · show (fa.2.1 : Int) * (E : Int) ≤ 8
          rw [e]; omega
      · rw [if_neg c3]
        exact hkn c1 c2 c3
theorem zchs_lok {G : zP → Nat → zT → zT} {M p : Int} (hp : zpr p) (hM : 0 < M) {f : Nat → Int} {pa : zP} (hG : zGl G M p (zpL pa + 1)) (hg : zGood M p pa) {m : Nat} (hm8 : m ≤ 8) (hme : m * zpD pa (zpL pa) ≤ 8) {x : Nat × Nat} (hx : zSf M p f pa m x) : ∀ (fs : List zF), (∀ fa, fa ∈ fs → zfok fa ∧ 0 < zroot p fa ∧ zroot p fa < p) → zsum fs ≤ zgd (zpts M p pa f m) x.1 x.2 → ∀ T, zLok T → zLok (fs.foldl (zch G M p pa (zside M p pa f (zpts M p pa f m) x)) T) := by
  intro fs
  induction fs with
  | nil => intro _ _ T h; exact h
  | cons fa fs ih =>
    intro h1 h2 T h
    have h2' : fa.1 * fa.2.1 + zsum fs ≤ zgd (zpts M p pa f m) x.1 x.2 := h2
    exact ih (fun y hy => h1 y (List.mem_cons_of_mem _ hy)) (by omega) _ (zch_lok hp hM hG hg hm8 hme hx fa (h1 fa List.mem_cons_self) (by omega) T h)
theorem zsds_lok {G : zP → Nat → zT → zT} {M p : Int} (hp : zpr p) (hM : 0 < M) (hM2 : M < 536870912) {f : Nat → Int} (hf : zred M 9 f) {pa : zP} (hG : zGl G M p (zpL pa + 1)) (hg : zGood M p pa) {m : Nat} (hm8 : m ≤ 8) (hme : m * zpD pa (zpL pa) ≤ 8) : ∀ xs : List (Nat × Nat), (∀ x, x ∈ xs → zSf M p f pa m x) → ∀ T, zLok T → zLok (xs.foldl (zsd G M p f pa m) T) := by
  intro xs
  induction xs with
  | nil => intro _ T h; exact h
  | cons x xs ih =>
    intro h T hT
    obtain ⟨r1, r2, r3, r4⟩ := zfac_ok hp hM hM2 hg hf hm8 (h x List.mem_cons_self)
    exact ih (fun y hy => h y (List.mem_cons_of_mem _ hy)) _ (zchs_lok hp hM hG hg hm8 hme (h x List.mem_cons_self) _ r4 r3 T hT)
theorem zGk_lok {M p : Int} (hp : zpr p) (hM : 0 < M) (hM2 : M < 536870912) {f : Nat → Int} (hf : zred M 9 f) : ∀ (d L : Nat), zGl (zGk M p f d) M p L := by
  intro d
  induction d with
  | zero => intro L pa m T _ _ _ _ _ h; exact h
  | succ d ih =>
    intro L pa m T hg hpa hm2 hm8 hme hT
    have hL1 := hg.1.1
    have hD := hg.1.D (k := zpL pa) hL1 (Nat.le_refl _)
    have hz : zfst (zpts M p pa f m) m ≤ m := zzs_le _ _ _
    unfold zGk
    refine zsds_lok hp hM hM2 hf (ih _) hg hm8 hme _ zSf_of _ ?_
    refine hT.add (fun l hl => ?_)
    unfold zleaf0 at hl
    by_cases c : 1 < zfst (zpts M p pa f m) m
    · rw [if_pos c] at hl
      rw [List.mem_singleton.mp hl]
      have e : ((zfst (zpts M p pa f m) m : Nat) : Int) * ((zpD pa (zpL pa) : Nat) : Int) = ((zfst (zpts M p pa f m) m * zpD pa (zpL pa) : Nat) : Int) := by rw [Int.natCast_mul]
      have e2 : zfst (zpts M p pa f m) m * zpD pa (zpL pa) ≤ m * zpD pa (zpL pa) := Nat.mul_le_mul_right _ hz
      refine ⟨by show (0 : Int) ≤ 4; omega, by show (4 : Int) ≤ 4; omega, by show (0 : Int) ≤ 0; omega, by show (0 : Int) ≤ 8; omega, by show (0 : Int) ≤ 0; omega, by show (0 : Int) ≤ 8; omega, ?_, ?_⟩
      · show (0 : Int) ≤ ((zfst (zpts M p pa f m) m : Nat) : Int) * ((zpD pa (zpL pa) : Nat) : Int)
        rw [e]; omega
      · show ((zfst (zpts M p pa f m) m : Nat) : Int) * ((zpD pa (zpL pa) : Nat) : Int) ≤ 8
        rw [e]; omega
    · rw [if_neg c] at hl
      by_cases c2 : zfst (zpts M p pa f m) m = 1
      · rw [if_pos c2] at hl
        rw [List.mem_singleton.mp hl]
        exact ⟨by show (0 : Int) ≤ 1; omega, by show (1 : Int) ≤ 4; omega, by show (0 : Int) ≤ (zpD pa (zpL pa) : Nat); omega, by show ((zpD pa (zpL pa) : Nat) : Int) ≤ 8; omega, by show (0 : Int) ≤ 1; omega, by show (1 : Int) ≤ 8; omega, by show (0 : Int) ≤ (zpD pa (zpL pa) : Nat); omega, by show ((zpD pa (zpL pa) : Nat) : Int) ≤ 8; omega⟩
      · rw [if_neg c2] at hl
        cases hl
theorem zTree_lok {M p : Int} (hp : zpr p) (hM : 2 ≤ M) (hM2 : M < 536870912) {f : Nat → Int} (hf : zred M 9 f) : zLok (zTree M p f) := by
  have hsum := zFc_sum p (fun k => f k % p)
  have hdl := degN_lt (fun k => f k % p) 9
  have hok := zFc_fok p (fun k => f k % p)
  have S : ∀ (fs : List zF), (∀ x, x ∈ fs → zfok x) → zsum fs ≤ 8 → ∀ T, zLok T → zLok (fs.foldl (ztf M p f) T) := by
    intro fs
    induction fs with
    | nil => intro _ _ T h; exact h
    | cons fa fs ih =>
      intro h1 h2 T hT
      have h2' : fa.1 * fa.2.1 + zsum fs ≤ 8 := h2
      have hfa := h1 fa List.mem_cons_self
      refine ih (fun y hy => h1 y (List.mem_cons_of_mem _ hy)) (by omega) _ ?_
      have a1 : fa.1 ≤ fa.1 * fa.2.1 := Nat.le_mul_of_pos_right _ hfa.2
      have a2 : fa.2.1 ≤ fa.1 * fa.2.1 := Nat.le_mul_of_pos_left _ hfa.1
      unfold ztf
      by_cases c1 : fa.2.1 = 1
      · rw [if_pos c1]
        refine hT.add (fun l hl => ?_)
        rw [List.mem_singleton.mp hl]
        exact ⟨by show (0 : Int) ≤ 0; omega, by show (0 : Int) ≤ 4; omega, by show (0 : Int) ≤ 1; omega, by show (1 : Int) ≤ 8; omega, by show (0 : Int) ≤ fa.1; omega, by show (fa.1 : Int) ≤ 8; omega, by show (0 : Int) ≤ fa.1; omega, by show (fa.1 : Int) ≤ 8; omega⟩
      · rw [if_neg c1]
        by_cases c2 : fa.1 = 1
        · rw [if_pos c2]
          have hD : zpD (ztop T.1.length (zky0 M p fa)) 1 = 1 := zD_1 _
          exact zGk_lok hp (by omega) hM2 hf 6 1 (ztop T.1.length (zky0 M p fa)) fa.2.1 T ⟨ztop_v (zky0_red hM fa), ztop_w, ztop_u⟩ rfl (by have := hfa.2; omega) (by omega) (by rw [show zpL (ztop T.1.length (zky0 M p fa)) = 1 from rfl, hD]; omega) hT
        · rw [if_neg c2]
          refine hT.add (fun l hl => ?_)
          rw [List.mem_singleton.mp hl]
          have e : (fa.1 : Int) * fa.2.1 = ((fa.1 * fa.2.1 : Nat) : Int) := by rw [Int.natCast_mul]
          refine ⟨by show (0 : Int) ≤ 2; omega, by show (2 : Int) ≤ 4; omega, by show (0 : Int) ≤ 0; omega, by show (0 : Int) ≤ 8; omega, by show (0 : Int) ≤ 0; omega, by show (0 : Int) ≤ 8; omega, ?_, ?_⟩
          · show (0 : Int) ≤ (fa.1 : Int) * fa.2.1
            rw [e]; omega
          · show (fa.1 : Int) * fa.2.1 ≤ 8
            rw [e]; omega
  exact S _ hok (by omega) ([], []) (fun l hl => (by cases hl))
theorem zTree_bd {M p : Int} (hp : zpr p) (hM : 2 ≤ M) (hM2 : M < 536870912) {f : Nat → Int} (hf : zred M 9 f) : zBd M p f 8 6 ([], []) (zTree M p f) := by
  have hsum := zFc_sum p (fun k => f k % p)
  have hdl := degN_lt (fun k => f k % p) 9
  have S : ∀ (fs : List zF), (∀ x, x ∈ fs → zfok x) → zsum fs ≤ 8 → ∀ T, zBd M p f (zsum fs) 6 T (fs.foldl (ztf M p f) T) := by
    intro fs
    induction fs with
    | nil => intro _ _ T; exact zBd.refl _ _ _ _ _ _
    | cons fa fs ih =>
      intro h1 h2 T
      have h2' : fa.1 * fa.2.1 + zsum fs ≤ 8 := h2
      exact (ztf_bd hp hM hM2 hf fa (h1 fa List.mem_cons_self) (by omega) T).trans (ih (fun y hy => h1 y (List.mem_cons_of_mem _ hy)) (by omega) _)
  exact (S _ (zFc_fok _ _) (by omega) ([], [])).mono (by omega) (Nat.le_refl _)
/-! spelling -/
def znum (v : Int) : List Int := if v ≤ 9 then [48 + v % 10] else [48 + v / 10, 48 + v % 10]
def zsp1 (x : zL) : List Int := List.replicate (x.1 - 1).toNat 63 ++ (if x.1 < 2 then znum x.2.1 ++ ([46] ++ znum x.2.2.1) else znum x.2.2.2.1) ++ (if x.1 = 1 then [33] else [])
def zspw : List zL → List Int → List Int
  | [], acc => acc
  | x :: xs, acc => zspw xs ((if acc = [] then [] else acc ++ [43]) ++ zsp1 x)
def zspell (ls : List zL) : List Int := zspw ls []
def zSpl (u : tS) (cs : List Int) : Prop := tgi u 63 = (cs.length : Int) ∧ ∀ (i : Nat) (c : Int), cs[i]? = some c → tga u 62 i = c
theorem sM_spells (t : tS) (cs : List Int) (c : Int) (h : zSpl t cs) (hl : cs.length < 160) (Q : mS → Prop) (hq : ∀ u, zfr [63] [62] [] t u → zSpl u (cs ++ [c]) → Q (cv u)) : wM_spells (cv t) (i32 c) Q := by
  have h1 := h.1
  unfold wM_spells
  try simp only [zl32, zl64, i32_add, i32_sub, i32_mul, i32_neg, i64_add, i64_sub, i64_mul, i64_neg, cv_gi, cv_gw, cv_ga, cv_gl, cv_pi, cv_pw, cv_pa, cv_pl, zf_S, zf_i, zf_l, mz1, mz2, mz3, mz4, zr_ii, zr_iw, zr_ia, zr_il, zr_wi, zr_ww, zr_wa, zr_wl, zr_ai, zr_aw, zr_aa, zr_al, zr_li, zr_lw, zr_la, zr_ll, zw_ii, zw_ww, zw_aa, zw_ll, reduceIte, Nat.reduceEqDiff, if_true, if_false]
  rw [h1]
  try simp (disch := omega) only [zi9, zi7, zi40, zi360, zikj, zijd, zi9o, zi7o, zip1, zip, zim1, i32_natN, ziL, zi_0, zi_1]
  repeat' (first | (exfalso; omega) | (with_reducible refine zb_in ?_ ?_ ?_ ?_; omega; omega; omega) | (with_reducible refine zb_le ?_ ?_ ?_ ?_ (fun _ => ?_) (fun _ => ?_); omega; omega; omega; omega) | (with_reducible refine zb_lt ?_ ?_ ?_ ?_ (fun _ => ?_) (fun _ => ?_); omega; omega; omega; omega) | (with_reducible refine zb_eq ?_ ?_ ?_ ?_ (fun _ => ?_) (fun _ => ?_); omega; omega; omega; omega) | (with_reducible refine zb_leL ?_ ?_ ?_ ?_ (fun _ => ?_) (fun _ => ?_); omega; omega; omega; omega) | (with_reducible refine zb_ltL ?_ ?_ ?_ ?_ (fun _ => ?_) (fun _ => ?_); omega; omega; omega; omega) | (with_reducible refine zb_eqL ?_ ?_ ?_ ?_ (fun _ => ?_) (fun _ => ?_); omega; omega; omega; omega) | (with_reducible refine zb_nz ?_ ?_ ?_ ?_; omega; omega; omega) | (with_reducible refine zb_nzL ?_ ?_ ?_ ?_; omega; omega; omega) | with_reducible refine zb_ite ?_ | with_reducible refine zb_iteL ?_ | ((with_reducible intro y hy); subst hy; try simp only [zl32, zl64, i32_add, i32_sub, i32_mul, i32_neg, i64_add, i64_sub, i64_mul, i64_neg, cv_gi, cv_gw, cv_ga, cv_gl, cv_pi, cv_pw, cv_pa, cv_pl, zf_S, zf_i, zf_l, mz1, mz2, mz3, mz4, zr_ii, zr_iw, zr_ia, zr_il, zr_wi, zr_ww, zr_wa, zr_wl, zr_ai, zr_aw, zr_aa, zr_al, zr_li, zr_lw, zr_la, zr_ll, zw_ii, zw_ww, zw_aa, zw_ll, reduceIte, Nat.reduceEqDiff, if_true, if_false]) | with_reducible refine zb_o1 ?_ | with_reducible refine zb_o2 ?_ | with_reducible refine zb_o3 ?_ | with_reducible refine zb_o4 ?_ | with_reducible refine zb_tr ?_ | exact trivial | with_reducible refine zb_T ?_ | with_reducible refine zb_sp ?_ ?_)
  refine hq _ (zfr_pi (zfr_sa (zfr.refl t) (by decide)) (by decide)) ⟨by try simp only [zl32, zl64, i32_add, i32_sub, i32_mul, i32_neg, i64_add, i64_sub, i64_mul, i64_neg, cv_gi, cv_gw, cv_ga, cv_gl, cv_pi, cv_pw, cv_pa, cv_pl, zf_S, zf_i, zf_l, mz1, mz2, mz3, mz4, zr_ii, zr_iw, zr_ia, zr_il, zr_wi, zr_ww, zr_wa, zr_wl, zr_ai, zr_aw, zr_aa, zr_al, zr_li, zr_lw, zr_la, zr_ll, zw_ii, zw_ww, zw_aa, zw_ll, reduceIte, Nat.reduceEqDiff, if_true, if_false]; rw [List.length_append, List.length_singleton]; omega, fun i x hx => ?_⟩
  try simp only [zl32, zl64, i32_add, i32_sub, i32_mul, i32_neg, i64_add, i64_sub, i64_mul, i64_neg, cv_gi, cv_gw, cv_ga, cv_gl, cv_pi, cv_pw, cv_pa, cv_pl, zf_S, zf_i, zf_l, mz1, mz2, mz3, mz4, zr_ii, zr_iw, zr_ia, zr_il, zr_wi, zr_ww, zr_wa, zr_wl, zr_ai, zr_aw, zr_aa, zr_al, zr_li, zr_lw, zr_la, zr_ll, zw_ii, zw_ww, zw_aa, zw_ll, reduceIte, Nat.reduceEqDiff, if_true, if_false]
  rw [List.getElem?_append] at hx
  by_cases c1 : i < cs.length
  · rw [if_pos c1] at hx
    rw [zup_ne _ _ (by omega)]
    exact h.2 i x hx
  · rw [if_neg c1] at hx
    have hi : i = cs.length := by
      have := (List.getElem?_eq_some_iff.mp hx).1
      rw [List.length_singleton] at this
      omega
    subst hi
    rw [Nat.sub_self] at hx
    cases hx
    exact zup_at _ _ _
theorem sM_spellsNumber (t : tS) (cs : List Int) (v : Int) (h : zSpl t cs) (hl : cs.length < 150) (hv : 0 ≤ v) (hv2 : v ≤ 99) (Q : mS → Prop) (hq : ∀ u, zfr [63] [62] [] t u → zSpl u (cs ++ znum v) → Q (cv u)) : wM_spellsNumber (cv t) (i32 v) Q := by
  unfold znum at hq
  unfold wM_spellsNumber wM_spellsNumber_j17
  try simp only [zl32, zl64, i32_add, i32_sub, i32_mul, i32_neg, i64_add, i64_sub, i64_mul, i64_neg, cv_gi, cv_gw, cv_ga, cv_gl, cv_pi, cv_pw, cv_pa, cv_pl, zf_S, zf_i, zf_l, mz1, mz2, mz3, mz4]
  rw [i32_div (by omega) (by omega) (by omega) (by omega)]
  try simp only [zl32, zl64, i32_add, i32_sub, i32_mul, i32_neg, i64_add, i64_sub, i64_mul, i64_neg, cv_gi, cv_gw, cv_ga, cv_gl, cv_pi, cv_pw, cv_pa, cv_pl, zf_S, zf_i, zf_l, mz1, mz2, mz3, mz4]
  rw [ze_tdivn hv, ze_emodn]
  repeat' (first | (exfalso; omega) | (with_reducible refine zb_in ?_ ?_ ?_ ?_; omega; omega; omega) | (with_reducible refine zb_le ?_ ?_ ?_ ?_ (fun _ => ?_) (fun _ => ?_); omega; omega; omega; omega) | (with_reducible refine zb_lt ?_ ?_ ?_ ?_ (fun _ => ?_) (fun _ => ?_); omega; omega; omega; omega) | (with_reducible refine zb_eq ?_ ?_ ?_ ?_ (fun _ => ?_) (fun _ => ?_); omega; omega; omega; omega) | (with_reducible refine zb_leL ?_ ?_ ?_ ?_ (fun _ => ?_) (fun _ => ?_); omega; omega; omega; omega) | (with_reducible refine zb_ltL ?_ ?_ ?_ ?_ (fun _ => ?_) (fun _ => ?_); omega; omega; omega; omega) | (with_reducible refine zb_eqL ?_ ?_ ?_ ?_ (fun _ => ?_) (fun _ => ?_); omega; omega; omega; omega) | (with_reducible refine zb_nz ?_ ?_ ?_ ?_; omega; omega; omega) | (with_reducible refine zb_nzL ?_ ?_ ?_ ?_; omega; omega; omega) | with_reducible refine zb_ite ?_ | with_reducible refine zb_iteL ?_ | ((with_reducible intro y hy); subst hy; try simp only [zl32, zl64, i32_add, i32_sub, i32_mul, i32_neg, i64_add, i64_sub, i64_mul, i64_neg, cv_gi, cv_gw, cv_ga, cv_gl, cv_pi, cv_pw, cv_pa, cv_pl, zf_S, zf_i, zf_l, mz1, mz2, mz3, mz4, zr_ii, zr_iw, zr_ia, zr_il, zr_wi, zr_ww, zr_wa, zr_wl, zr_ai, zr_aw, zr_aa, zr_al, zr_li, zr_lw, zr_la, zr_ll, zw_ii, zw_ww, zw_aa, zw_ll, reduceIte, Nat.reduceEqDiff, if_true, if_false]) | with_reducible refine zb_o1 ?_ | with_reducible refine zb_o2 ?_ | with_reducible refine zb_o3 ?_ | with_reducible refine zb_o4 ?_ | with_reducible refine zb_tr ?_ | exact trivial | with_reducible refine zb_T ?_ | with_reducible refine zb_sp ?_ ?_)
  · rw [if_pos (by omega)] at hq
    exact sM_spells t cs _ h (by omega) _ (fun u f1 f2 => hq u f1 f2)
  · rw [if_neg (by omega)] at hq
    refine sM_spells t cs _ h (by omega) _ (fun u f1 f2 => ?_)
    refine sM_spells u _ _ f2 (by rw [List.length_append, List.length_singleton]; omega) _ (fun w g1 g2 => hq w (f1.trans g1) ?_)
    rw [List.append_assoc] at g2
    exact g2
