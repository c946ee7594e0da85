/-! PURE 26: the tree's bounds -/
set_option maxRecDepth 100000
theorem zCd_rng {p : Int} (hp : 2 ≤ p) {d : Nat} (hd : 1 ≤ d) : ∀ (n code L : Nat) (f : Nat → Int) (fs : List zF), (∀ x, x ∈ fs → 0 ≤ x.2.2 0 ∧ x.2.2 0 < p) → ∀ x, x ∈ (zCd p d n code L f fs).2.2 → 0 ≤ x.2.2 0 ∧ x.2.2 0 < p := by
  intro n
  induction n with
  | zero => intro code L f fs h; exact h
  | succ n ih =>
    intro code L f fs h
    unfold zCd
    by_cases c : L < d
    · rw [if_pos c]
      exact h
    · rw [if_neg c]
      refine ih _ _ _ _ (fun x hx => ?_)
      by_cases c3 : 0 < (zTk p (ztrial p code d) d 9 L f 0).2.2
      · rw [if_pos c3] at hx
        rcases List.mem_append.mp hx with q | q
        · exact h x q
        · rw [List.mem_singleton.mp q]
          exact zred_ztrial hp 0 (by omega)
      · rw [if_neg c3] at hx
        exact h x hx
theorem zDg_rng {p : Int} (hp : 2 ≤ p) : ∀ (n d L : Nat) (f : Nat → Int) (fs : List zF), 1 ≤ d → L < 9 → zred p 9 f → fs.length + L ≤ 8 → (∀ x, x ∈ fs → 0 ≤ x.2.2 0 ∧ x.2.2 0 < p) → ∀ x, x ∈ zDg p n d L f fs → 0 ≤ x.2.2 0 ∧ x.2.2 0 < p := by
  intro n
  induction n with
  | zero => intro d L f fs _ _ _ _ h; exact h
  | succ n ih =>
    intro d L f fs hd hL hr hl h
    unfold zDg
    by_cases c : L < 2 * d
    · rw [if_pos c]
      by_cases c2 : L = 0
      · rw [if_pos c2]; exact h
      · rw [if_neg c2]
        intro x hx
        rcases List.mem_append.mp hx with q | q
        · exact h x q
        · rw [List.mem_singleton.mp q]
          show 0 ≤ (if 0 ≤ L then f 0 else 0) ∧ (if 0 ≤ L then f 0 else 0) < p
          rw [if_pos (by omega)]
          exact hr 0 (by omega)
    · rw [if_neg c]
      have e := zCd_ok (p := p) (by omega) hd (p ^ d).toNat 0 L f fs hL hr hl
      exact ih _ _ _ _ (by omega) (by omega) e.2.2 e.1 (zCd_rng hp hd _ _ _ _ _ h)
theorem zFc_rng {p : Int} (hp : zpr p) {f : Nat → Int} (hr : zred p 9 f) : ∀ x, x ∈ zFc p f → 0 ≤ x.2.2 0 ∧ x.2.2 0 < p := by
  have hp2 : 2 ≤ p := by rcases hp with h | h | h | h <;> omega
  have hdl := degN_lt f 9
  exact zDg_rng hp2 5 1 _ _ [] (Nat.le_refl _) (by omega) (zred_zmnc (by omega) hr) (by rw [List.length_nil]; omega) (fun x hx => (by cases hx))
theorem zroot_ok {p : Int} {fa : zF} (h : 0 ≤ fa.2.2 0 ∧ fa.2.2 0 < p) (h0 : fa.2.2 0 ≠ 0) : 0 < zroot p fa ∧ zroot p fa < p := by
  unfold zroot
  rw [Int.emod_eq_of_lt (by omega) (by omega)]
  omega
/-- what a grown knot may take -/
def zGb (G : zP → Nat → zT → zT) (M p : Int) (f : Nat → Int) (d L : Nat) : Prop := ∀ pa m T, zGood M p pa → zpL pa = L → 2 ≤ m → m ≤ 8 → m * zpD pa (zpL pa) ≤ 8 → zBd M p f (m * zpD pa (zpL pa)) d T (G pa m T)
/-- the facts of a side that its factors need -/
def zSf (M p : Int) (f : Nat → Int) (pa : zP) (m : Nat) (x : Nat × Nat) : Prop := x.1 < x.2 ∧ x.2 ≤ m ∧ 0 ≤ zpts M p pa f m x.2 ∧ zpts M p pa f m x.2 < zpts M p pa f m x.1
theorem zSf_of {M p : Int} {f : Nat → Int} {pa : zP} {m : Nat} : ∀ x, x ∈ zhull (zpts M p pa f m) m → zSf M p f pa m x := by
  intro x hx
  have := zhull_ok.1 x hx
  exact ⟨by omega, by omega, by omega, by omega⟩
/-- the facts of a factor of a side -/
theorem zfac_ok {M p : Int} (hp : zpr p) (hM : 0 < M) (hM2 : M < 536870912) {pa : zP} (hg : zGood M p pa) {f : Nat → Int} (hf : zred M 9 f) {m : Nat} (hm8 : m ≤ 8) {x : Nat × Nat} (hx : zSf M p f pa m x) :
    zred p 9 (zside M p pa f (zpts M p pa f m) x).2.2.2.2.2.2.2 ∧ 0 ≤ degN (zside M p pa f (zpts M p pa f m) x).2.2.2.2.2.2.2 9 ∧ zsum (zFc p (zside M p pa f (zpts M p pa f m) x).2.2.2.2.2.2.2) ≤ zgd (zpts M p pa f m) x.1 x.2 ∧ ∀ fa, fa ∈ zFc p (zside M p pa f (zpts M p pa f m) x).2.2.2.2.2.2.2 → zfok fa ∧ 0 < zroot p fa ∧ zroot p fa < p := by
  obtain ⟨h1, h2, h3, h4⟩ := hx
  obtain ⟨r1, r2, r3⟩ := zside_re hp hM hM2 hg.1 hg.2.1 hf (by omega) h3 h1 h4
  refine ⟨r1, ?_, Nat.le_trans (zFc_sum _ _) (zside_deg r3), fun fa hfa => ⟨zFc_fok _ _ fa hfa, zroot_ok (zFc_rng hp r1 fa hfa) (zFc_c0 hp r1 r2 fa hfa)⟩⟩
  rcases Int.lt_or_le (degN (zside M p pa f (zpts M p pa f m) x).2.2.2.2.2.2.2 9) 0 with q | q
  · exact absurd (degN_hi _ 9 0 (by omega) (by omega)) r2
  · exact q
theorem zch_bd {G : zP → Nat → zT → zT} {M p : Int} (hp : zpr p) (hM : 0 < M) {f : Nat → Int} {d : Nat} {pa : zP} (hG : zGb G M p f d (zpL pa + 1)) (hg : zGood M p pa) {m : Nat} (hm8 : m ≤ 8) (hme : m * zpD pa (zpL pa) ≤ 8) {x : Nat × Nat} (hx : zSf M p f pa m x) (fa : zF) (hfa : zfok fa ∧ 0 < zroot p fa ∧ zroot p fa < p) (hb : fa.1 * fa.2.1 ≤ zgd (zpts M p pa f m) x.1 x.2) (T : zT) :
    zBd M p f (fa.1 * fa.2.1 * (zrm (zpts M p pa f m) x.1 x.2 * zpD pa (zpL pa))) d T (zch G M p pa (zside M p pa f (zpts M p pa f m) x) T fa) := by
  obtain ⟨h1, h2, h3, h4⟩ := hx
  obtain ⟨g1, g2, g3, g4, g5, g6, g7⟩ := zgd_ok h1 h4
  have hL1 := hg.1.1
  have hD := hg.1.D (k := zpL pa) hL1 (Nat.le_refl _)
  have hre : 1 ≤ zrm (zpts M p pa f m) x.1 x.2 * zpD pa (zpL pa) := Nat.mul_pos g4 hD.1
  have hft : 1 ≤ fa.1 * fa.2.1 := Nat.mul_pos hfa.1.1 hfa.1.2
  have h1b : 1 ≤ fa.1 * fa.2.1 * (zrm (zpts M p pa f m) x.1 x.2 * zpD pa (zpL pa)) := Nat.mul_pos hft hre
  have leaf : ∀ l : zL, zBd M p f (fa.1 * fa.2.1 * (zrm (zpts M p pa f m) x.1 x.2 * zpD pa (zpL pa))) d T (T.1, T.2 ++ [l]) := fun l => ⟨by show 2 * T.1.length ≤ _; omega, by show zso M p f T.1 ≤ _; omega, by show (T.2 ++ [l]).length ≤ _; rw [List.length_append, List.length_singleton]; omega⟩
  unfold zch
  by_cases c1 : fa.2.1 = 1
  · rw [if_pos c1]; exact leaf _
  · rw [if_neg c1]
    by_cases c2 : 1 < fa.1
    · rw [if_pos c2]; exact leaf _
    · rw [if_neg c2]
      by_cases c3 : zpL pa = 6
      · rw [if_pos c3]; exact leaf _
      · rw [if_neg c3]
        have hL6 := hg.1.2.1
        have hf1 : fa.1 = 1 := by have := hfa.1.1; omega
        have ht2 : 2 ≤ fa.2.1 := by have := hfa.1.2; omega
        rw [hf1, Nat.one_mul] at hb ⊢
        have hw1 : fa.2.1 * zrm (zpts M p pa f m) x.1 x.2 ≤ m := by
          have : fa.2.1 * zrm (zpts M p pa f m) x.1 x.2 ≤ zgd (zpts M p pa f m) x.1 x.2 * zrm (zpts M p pa f m) x.1 x.2 := Nat.mul_le_mul_right _ hb
          omega
        have hw2 : fa.2.1 * (zpD pa (zpL pa) * zrm (zpts M p pa f m) x.1 x.2) ≤ 8 := by
          have : fa.2.1 * zrm (zpts M p pa f m) x.1 x.2 * zpD pa (zpL pa) ≤ m * zpD pa (zpL pa) := Nat.mul_le_mul_right _ hw1
          rw [Nat.mul_comm (zpD pa (zpL pa)), ← Nat.mul_assoc]
          omega
        have hw3 : zpD pa (zpL pa) * zrm (zpts M p pa f m) x.1 x.2 ≤ 4 := by
          have : 2 * (zpD pa (zpL pa) * zrm (zpts M p pa f m) x.1 x.2) ≤ fa.2.1 * (zpD pa (zpL pa) * zrm (zpts M p pa f m) x.1 x.2) := Nat.mul_le_mul_right _ ht2
          omega
        have ht8 : fa.2.1 ≤ 8 := by omega
        have gd := zchild_good (f := f) (m := m) hp hM hg (by omega) hm8 h1 h3 h4 T.1.length (znk_red (p := p) (pa := pa) (ram := zrm (zpts M p pa f m) x.1 x.2) (sm := zvm pa (zsl pa (zpts M p pa f m) x.1 x.2)) (root := zroot p fa) hM) hfa.2 hw3
        have e := hG _ fa.2.1 T gd rfl ht2 ht8 (by
          rw [show zpL (zext pa T.1.length (znk M p pa (zrm (zpts M p pa f m) x.1 x.2) (zvm pa (zsl pa (zpts M p pa f m) x.1 x.2)) (zroot p fa)) (zrm (zpts M p pa f m) x.1 x.2) (zsl pa (zpts M p pa f m) x.1 x.2) (zroot p fa) (zvm pa (zsl pa (zpts M p pa f m) x.1 x.2))) = zpL pa + 1 from rfl, zext_DL _ _ _ _ _ _ _ hL1]
          exact hw2)
        rw [show zpL (zext pa T.1.length (znk M p pa (zrm (zpts M p pa f m) x.1 x.2) (zvm pa (zsl pa (zpts M p pa f m) x.1 x.2)) (zroot p fa)) (zrm (zpts M p pa f m) x.1 x.2) (zsl pa (zpts M p pa f m) x.1 x.2) (zroot p fa) (zvm pa (zsl pa (zpts M p pa f m) x.1 x.2))) = zpL pa + 1 from rfl, zext_DL _ _ _ _ _ _ _ hL1, Nat.mul_comm (zpD pa (zpL pa))] at e
        exact e
theorem zchs_bd {G : zP → Nat → zT → zT} {M p : Int} (hp : zpr p) (hM : 0 < M) {f : Nat → Int} {d : Nat} {pa : zP} (hG : zGb G M p f d (zpL pa + 1)) (hg : zGood M p pa) {m : Nat} (hm8 : m ≤ 8) (hme : m * zpD pa (zpL pa) ≤ 8) {x : Nat × Nat} (hx : zSf M p f pa m x) : ∀ (fs : List zF), (∀ fa, fa ∈ fs → zfok fa ∧ 0 < zroot p fa ∧ zroot p fa < p) → zsum fs ≤ zgd (zpts M p pa f m) x.1 x.2 → ∀ T, zBd M p f (zsum fs * (zrm (zpts M p pa f m) x.1 x.2 * zpD pa (zpL pa))) d T (fs.foldl (zch G M p pa (zside M p pa f (zpts M p pa f m) x)) T) := by
  intro fs
  induction fs with
  | nil => intro _ _ T; exact zBd.refl _ _ _ _ _ _
  | cons fa fs ih =>
    intro h1 h2 T
    have h2' : fa.1 * fa.2.1 + zsum fs ≤ zgd (zpts M p pa f m) x.1 x.2 := h2
    have e1 := zch_bd hp hM hG hg hm8 hme hx fa (h1 fa List.mem_cons_self) (by omega) T
    have e2 := ih (fun y hy => h1 y (List.mem_cons_of_mem _ hy)) (by omega) (zch G M p pa (zside M p pa f (zpts M p pa f m) x) T fa)
    have e3 := e1.trans e2
    rw [← Nat.add_mul] at e3
    exact e3
theorem zsd_bd {G : zP → Nat → zT → zT} {M p : Int} (hp : zpr p) (hM : 0 < M) (hM2 : M < 536870912) {f : Nat → Int} (hf : zred M 9 f) {d : Nat} {pa : zP} (hG : zGb G M p f d (zpL pa + 1)) (hg : zGood M p pa) {m : Nat} (hm8 : m ≤ 8) (hme : m * zpD pa (zpL pa) ≤ 8) {x : Nat × Nat} (hx : zSf M p f pa m x) (T : zT) : zBd M p f ((x.2 - x.1) * zpD pa (zpL pa)) d T (zsd G M p f pa m T x) := by
  obtain ⟨r1, r2, r3, r4⟩ := zfac_ok hp hM hM2 hg hf hm8 hx
  have e := zchs_bd hp hM hG hg hm8 hme hx _ r4 r3 T
  have g3 := (zgd_ok hx.1 hx.2.2.2).2.2.1
  refine e.mono ?_ (Nat.le_refl _)
  rw [← g3, Nat.mul_assoc]
  exact Nat.mul_le_mul_right _ r3
theorem zsds_bd {G : zP → Nat → zT → zT} {M p : Int} (hp : zpr p) (hM : 0 < M) (hM2 : M < 536870912) {f : Nat → Int} (hf : zred M 9 f) {d : Nat} {pa : zP} (hG : zGb G M p f d (zpL pa + 1)) (hg : zGood M p pa) {m : Nat} (hm8 : m ≤ 8) (hme : m * zpD pa (zpL pa) ≤ 8) : ∀ xs : List (Nat × Nat), (∀ x, x ∈ xs → zSf M p f pa m x) → ∀ T, zBd M p f (zwd xs * zpD pa (zpL pa)) d T (xs.foldl (zsd G M p f pa m) T) := by
  intro xs
  induction xs with
  | nil => intro _ T; exact zBd.refl _ _ _ _ _ _
  | cons x xs ih =>
    intro h T
    have e1 := zsd_bd hp hM hM2 hf hG hg hm8 hme (h x List.mem_cons_self) T
    have e2 := ih (fun y hy => h y (List.mem_cons_of_mem _ hy)) (zsd G M p f pa m T x)
    have e3 := e1.trans e2
    rw [← Nat.add_mul] at e3
    exact e3
theorem zleaf0_len (pa : zP) (z kn : Nat) : (zleaf0 pa z kn).length ≤ z := by
  unfold zleaf0
  by_cases c : 1 < z
  · rw [if_pos c, List.length_singleton]; omega
  · rw [if_neg c]
    by_cases c2 : z = 1
    · rw [if_pos c2, List.length_singleton]; omega
    · rw [if_neg c2, List.length_nil]; omega
theorem zGk_bd {M p : Int} (hp : zpr p) (hM : 0 < M) (hM2 : M < 536870912) {f : Nat → Int} (hf : zred M 9 f) : ∀ (d L : Nat), L + d = 7 → zGb (zGk M p f d) M p f d L := by
  intro d
  induction d with
  | zero => intro L hL pa m T _ _ _ _ _; exact zBd.refl _ _ _ _ _ _
  | succ d ih =>
    intro L hL pa m T hg hpa hm2 hm8 hme
    have hL1 := hg.1.1
    have hD := hg.1.D (k := zpL pa) hL1 (Nat.le_refl _)
    have hG := ih (zpL pa + 1) (by omega)
    obtain ⟨e1, e2, e3⟩ := zsds_bd hp hM hM2 hf hG hg hm8 hme (zhull (zpts M p pa f m) m) zSf_of (zst0 M p f pa m T)
    have hwd := zhull_wd (pts := zpts M p pa f m) (m := m)
    have hln := (zhull_ok (pts := zpts M p pa f m) (m := m)).2
    have hl0 := zleaf0_len pa (zfst (zpts M p pa f m) m) (zpA pa (zpL pa))
    have f1 : (zst0 M p f pa m T).1.length = T.1.length + 1 := by
      show (T.1 ++ [(pa, m)]).length = _
      rw [List.length_append, List.length_singleton]
    have f2 : zso M p f (zst0 M p f pa m T).1 = zso M p f T.1 + (zhull (zpts M p pa f m) m).length := by
      show zso M p f (T.1 ++ [(pa, m)]) = _
      rw [zso_app]
      rfl
    have f3 : (zst0 M p f pa m T).2.length = T.2.length + (zleaf0 pa (zfst (zpts M p pa f m) m) (zpA pa (zpL pa))).length := by
      show (T.2 ++ _).length = _
      rw [List.length_append]
    rw [f1] at e1
    rw [f2] at e2
    rw [f3] at e3
    have a1 : zwd (zhull (zpts M p pa f m) m) * zpD pa (zpL pa) * d ≤ m * zpD pa (zpL pa) * d := Nat.mul_le_mul_right _ (Nat.mul_le_mul_right _ (by omega))
    have a2 : m ≤ m * zpD pa (zpL pa) := Nat.le_mul_of_pos_right _ hD.1
    have a3 : (zwd (zhull (zpts M p pa f m) m) + zfst (zpts M p pa f m) m) * zpD pa (zpL pa) ≤ m * zpD pa (zpL pa) := Nat.mul_le_mul_right _ hwd
    rw [Nat.add_mul] at a3
    have a4 : zfst (zpts M p pa f m) m ≤ zfst (zpts M p pa f m) m * zpD pa (zpL pa) := Nat.le_mul_of_pos_right _ hD.1
    unfold zGk
    refine ⟨?_, ?_, ?_⟩
    · rw [Nat.mul_add, Nat.mul_one]; omega
    · rw [Nat.mul_add, Nat.mul_one]; omega
    · omega
