/-! CLASS 20: heads: a row that is not 0 has one; headOf -/
set_option maxRecDepth 100000
theorem zdvw_nil {M : Int} {g : Nat → Int} {d s : Nat} : ∀ (n : Nat) (f : Nat → Int), n ≤ 9 → zred M 9 f → (∀ q, q < 9 → zdvw M g d s n f q = 0) → ∀ q, q < 9 → f q = 0 := by
  intro n
  induction n with
  | zero => intro f _ _ h; exact h
  | succ n ih =>
    intro f hn rf h
    unfold zdvw at h
    by_cases c : s + d ≤ n
    · rw [if_pos c] at h
      have hM : 0 < M := by have := rf 0 (by omega); omega
      have e := ih (zdst M g d n f) (by omega) (zred_zdst hM rf) h
      have en : f n = 0 := by
        have := e n (by omega)
        unfold zdst at this
        rw [if_neg (by omega)] at this
        exact this
      intro q hq
      have eq := e q hq
      unfold zdst at eq
      by_cases c2 : n ≤ q + d ∧ q < n
      · rw [if_pos c2, en, Int.zero_mul, Int.sub_zero, Int.emod_eq_of_lt (rf q hq).1 (rf q hq).2] at eq
        exact eq
      · rw [if_neg c2] at eq
        exact eq
    · rw [if_neg c] at h
      exact h
theorem zqn_topN {M : Int} {g f : Nat → Int} {d N : Nat} (hf : ∀ m, N ≤ m → f m = 0) : ∀ (i m : Nat), N ≤ m + i * d → zqn M g d i f m = 0 := by
  intro i
  induction i with
  | zero => intro m h; exact hf m (by omega)
  | succ i ih =>
    intro m h
    rw [zqn_s]
    unfold zquo
    by_cases c : m + d < 9
    · rw [if_pos c]
      refine zdvw_zero (n := m + d) 9 _ (fun x hx => ih x ?_) _ (Nat.le_refl _)
      rw [Nat.add_mul] at h
      omega
    · rw [if_neg c]
theorem zpart_topN {M : Int} {g f : Nat → Int} {d N i t : Nat} (hf : ∀ m, N ≤ m → f m = 0) (h : N ≤ i * d + t) : zpart M g d i f t = 0 := by
  unfold zpart zrem
  by_cases c : t < d
  · rw [if_pos c]
    exact zdvw_zero (n := t) 9 _ (fun x hx => zqn_topN hf i x (by omega)) _ (Nat.le_refl _)
  · rw [if_neg c]
theorem zpart_all0 {M : Int} (hM : 0 < M) {g f : Nat → Int} {d : Nat} (hd : 1 ≤ d) (rf : zred M 9 f) (hf : ∀ m, 9 ≤ m → f m = 0) (h : ∀ i, i < 9 → ∀ t, t < 9 → zpart M g d i f t = 0) : ∀ q, q < 9 → f q = 0 := by
  have key : ∀ n i : Nat, i + n = 9 → ∀ q, q < 9 → zqn M g d i f q = 0 := by
    intro n
    induction n with
    | zero =>
      intro i hi q hq
      refine zqn_topN hf i q ?_
      have : 9 * 1 ≤ i * d := Nat.mul_le_mul (by omega) hd
      omega
    | succ n ih =>
      intro i hi
      have e := ih (i + 1) (by omega)
      refine zdvw_nil 9 _ (Nat.le_refl _) (zred_zqn hM i f rf) (g := g) (d := d) (s := 0) (fun q hq => ?_)
      by_cases c : q < d
      · have := h i (by omega) q hq
        unfold zpart zrem at this
        rw [if_pos c] at this
        exact this
      · have := e (q - d) (by omega)
        rw [zqn_s] at this
        unfold zquo at this
        rw [if_pos (by omega), show q - d + d = q from by omega] at this
        exact this
  exact key 9 0 rfl
theorem zB_all0 {M : Int} (hM : 0 < M) {pa : zP} (hv : zPv M pa) {a : Nat → Int} (ra : zred M 9 a) (ha : ∀ x, zpD pa (zpL pa) ≤ x → a x = 0) : ∀ l, l < zpL pa → ∀ b, (∀ x, x < zpD pa (l + 1) → zcf M pa a (b * zpD pa (l + 1) + x) = 0) → ∀ q, q < 9 → zB M pa a (zpL pa - 1 - l) b q = 0 := by
  intro l
  induction l with
  | zero =>
    intro hl b h q hq
    have hD1 : zpD pa 1 = 1 := zD_1 _
    by_cases c : q = 0
    · rw [c]
      have := h 0 (by rw [Nat.zero_add, hD1]; omega)
      rw [Nat.zero_add, hD1, Nat.mul_one, Nat.add_zero] at this
      exact this
    · exact zB_hi ha _ _ _ (by omega) (by rw [show zpL pa - (zpL pa - 1 - 0) = 1 from by omega, hD1]; omega)
  | succ l ih =>
    intro hl b h
    have hD := hv.D (k := l + 1) (by omega) (by omega)
    have hDs := hv.Ds (k := l + 1) (by omega)
    have hD2 := hv.D (k := l + 2) (by omega) (by omega)
    have sup : ∀ x, zpD pa (l + 2) ≤ x → zB M pa a (zpL pa - 1 - (l + 1)) b x = 0 := fun x hx => zB_hi ha _ _ _ (by omega) (by rw [show zpL pa - (zpL pa - 1 - (l + 1)) = l + 2 from by omega]; exact hx)
    refine zpart_all0 hM hD.1 (g := zpK pa (l + 1)) (zB_red hM ra _ _) (fun m hm => sup m (by omega)) (fun k hk t ht => ?_)
    by_cases c : k < zpR pa (l + 1)
    · have e : zpart M (zpK pa (l + 1)) (zpD pa (l + 1)) k (zB M pa a (zpL pa - 1 - (l + 1)) b) = zB M pa a (zpL pa - 1 - l) (b * zpR pa (l + 1) + k) := by
        rw [show zpL pa - 1 - l = (zpL pa - 1 - (l + 1)) + 1 from by omega]
        conv => rhs; unfold zB
        rw [show zpL pa - 1 - (zpL pa - 1 - (l + 1)) = l + 1 from by omega]
        rw [Nat.add_comm (b * _), Nat.add_mul_mod_self_right, Nat.mod_eq_of_lt c, Nat.add_mul_div_right _ _ (by omega), Nat.div_eq_of_lt c, Nat.zero_add]
      rw [e]
      refine ih (by omega) _ (fun x hx => ?_) t ht
      have hb : k * zpD pa (l + 1) + x < zpD pa (l + 1 + 1) := by
        rw [hDs]
        have : (k + 1) * zpD pa (l + 1) ≤ zpR pa (l + 1) * zpD pa (l + 1) := Nat.mul_le_mul_right _ c
        rw [Nat.add_mul, Nat.mul_comm (zpR pa (l + 1))] at this
        omega
      have := h (k * zpD pa (l + 1) + x) hb
      rw [hDs] at this
      rw [Nat.add_mul, Nat.mul_assoc, Nat.mul_comm (zpR pa (l + 1)), Nat.add_assoc]
      exact this
    · refine zpart_topN sup ?_
      have : zpR pa (l + 1) * zpD pa (l + 1) ≤ k * zpD pa (l + 1) := Nat.mul_le_mul_right _ (by omega)
      show zpD pa (l + 1 + 1) ≤ _
      rw [hDs, Nat.mul_comm (zpD pa (l + 1))]
      omega
theorem zbs_some {M p : Int} {pa : zP} (hv : zPv M pa) {a : Nat → Int} : ∀ N, (∃ j, j < N ∧ zcf M pa a j ≠ 0) → 0 ≤ (zbs M p pa a N).1 := by
  intro N
  induction N with
  | zero => rintro ⟨j, h, _⟩; omega
  | succ N ih =>
    rintro ⟨j, h1, h2⟩
    unfold zbs
    by_cases c : zcf M pa a N = 0
    · rw [if_pos c]
      refine ih ⟨j, ?_, h2⟩
      by_cases e : j = N
      · rw [e] at h2; exact absurd c h2
      · omega
    · rw [if_neg c]
      by_cases c2 : (zbs M p pa a N).1 < 0 ∨ zhv p pa (zcf M pa a N) N < (zbs M p pa a N).1
      · rw [if_pos c2]
        have := zhs_bd hv N (zpL pa - 1) (by have := hv.1; omega)
        have h3 : 0 ≤ (zpD pa (zpL pa) : Int) * zval p (zcf M pa a N) := Int.mul_nonneg (by omega) (by omega)
        show 0 ≤ zhv p pa (zcf M pa a N) N
        unfold zhv
        omega
      · rw [if_neg c2]
        omega
theorem zhd_nz {M p : Int} (hM : 0 < M) {pa : zP} (hv : zPv M pa) {a : Nat → Int} (ra : zred M 9 a) (ha : ∀ x, zpD pa (zpL pa) ≤ x → a x = 0) {q : Nat} (hq : q < 9) (hz : a q ≠ 0) : 0 ≤ (zhd M p pa a).1 := by
  refine zbs_some hv _ ?_
  have hL := hv.1
  by_cases c : ∃ j, j < zpD pa (zpL pa) ∧ zcf M pa a j ≠ 0
  · exact c
  · refine absurd (zB_all0 hM hv ra ha (zpL pa - 1) (by omega) 0 (fun x hx => ?_) q hq) ?_
    · rw [show zpL pa - 1 + 1 = zpL pa from by omega] at hx
      rw [Nat.zero_mul, Nat.zero_add]
      by_cases e : zcf M pa a x = 0
      · exact e
      · exact absurd ⟨x, hx, e⟩ c
    · rw [show zpL pa - 1 - (zpL pa - 1) = 0 from by omega]
      exact hz
theorem zhm_j {M p : Int} {pa : zP} {a : Nat → Int} (h : 0 ≤ (zhd M p pa a).2) : zhmj M p pa a (zhd M p pa a).2.toNat = zhm M p pa a := by
  funext k
  unfold zhmj zhm
  rw [if_neg (show ¬ (zhd M p pa a).2 < 0 by omega)]
theorem zhr_j {M p : Int} {pa : zP} {a : Nat → Int} : zhrj M p pa a (zhd M p pa a).2.toNat = zhr M p pa a := rfl
/-- what headOf may change -/
def kMh (A : Nat → Nat) (T P : Nat) (q : Nat) : Prop := (q = A 1 ∨ q = A 2 ∨ ∃ r i, 1 ≤ r ∧ r ≤ 6 ∧ i < 9 ∧ q = A (14 + 9 * r + i)) ∨ q = T ∨ q = P
theorem kC_headOf {S : hH} {A : Nat → Nat} {La : Nat → Prop} (hA : kInj A La) {p M : Int} {tr : Option Nat} (o0 : S (A 0) = some (kOb A p M tr)) (hp2 : 2 ≤ p) (hp7 : p ≤ 7) (hM : 1 < M) (hM2 : M < 536870912) {T P : Nat} {fa L1 L2 : Nat} {dg hv0 : Int} {hd : Option Nat} {m : Nat → Prop} (hm : ∀ q, kSc A q ∨ q = T ∨ q = P → m q) {w sd : Nat → Nat} {pa : zP} (hW : kWy m S w sd pa) (hv : zPv M pa) (hkm : zKm pa) (hs : kScr A S) (nT : ∀ k, k < 90 → A k ≠ T) (nP : ∀ k, k < 90 → A k ≠ P) (oT : S T = some (kTo fa dg L1 L2 P hd hv0 (A 0))) (iP : S P = some (kI 7 (fun _ => 0))) {a : Nat → Int} {rw_ : Nat} (jr : S rw_ = some (kJ 9 a)) (ra : zred M 9 a) (ha : ∀ x, zpD pa (zpL pa) ≤ x → a x = 0) {x : Nat} (hx : x < 9) (hz : a x ≠ 0) (hrw : ¬ kMh A T P rw_) (mc ms : Nat) (hmc : 8 ≤ mc) (hms : 36 ≤ ms) (Q : Nat → hH → Prop)
    (q : ∀ S1 h t, S h = none → S t = none → kF (kMh A T P) S S1 → kScr A S1 → S1 T = some (kTo fa dg L1 L2 P (some h) (zhd M p pa a).1 (A 0)) → S1 P = some (kI 7 (fun _ => 0)) → S1 h = some (kMo t (zhr M p pa a)) → S1 t = some (kI 7 (zhm M p pa a)) → Q h S1) : wX6_headOf mc ms S T (w (zpL pa)) rw_ Q := by
  have hL := hv.1
  have hD4 := hv.2.2.2.1
  obtain ⟨root, mf, nu, ka, wo, pt, sl, fi, ix, oo, _, _⟩ := hW.1 (zpL pa) hL (Nat.le_refl _)
  have oo1 := oo.1
  have nwT : w (zpL pa) ≠ T := kne2 oo1 oT (by intro e; cases e)
  have nTP : T ≠ P := kne2 oT iP (by intro e; cases e)
  have nPT : P ≠ T := fun e => nTP e.symm
  have e0 : zdgs pa (0 * zpD pa (zpL pa - 1 + 1)) = fun _ => 0 := by
    funext k
    unfold zdgs zdg
    rw [Nat.zero_mul]
    split
    · rfl
    · split
      · rw [Nat.zero_div, Nat.zero_mod]; rfl
      · rfl
  have ez : ∀ n, zhs pa 0 n = 0 := by
    intro n
    induction n with
    | zero => rfl
    | succ n ih =>
      unfold zhs zdg
      rw [ih, Nat.zero_div, Nat.zero_mod]
      simp
  have hz1 := zhd_nz (p := p) (by omega : 0 < M) hv ra ha hx hz
  have hz2 := (zbs_bd (p := p) hv a (zpD pa (zpL pa))).2.2.2.2
  have hz3 : 0 ≤ (zhd M p pa a).2 := by
    have : ¬ (zbs M p pa a (zpD pa (zpL pa))).2 < 0 := fun e => by
      have := hz2.mpr e
      unfold zhd at hz1
      omega
    unfold zhd
    omega
  unfold wX6_headOf
  try simp (disch := first | assumption | omega) only [zl32, zl64, i32_add, i32_sub, i32_mul, i32_neg, i64_add, i64_sub, i64_mul, i64_neg, cv_gi, cv_gw, cv_ga, cv_gl, cv_pi, cv_pw, cv_pa, cv_pl, zf_S, zf_i, zf_l, mz1, mz2, mz3, mz4, kn_haI, kn_haJ, kn_haQ, kn_gaI, kn_gaJ, kn_gaQ, kn_hoA, kn_hlen, kn_hfI, kn_hfJ, kn_hfR, kn_hfN, kn_hoI, kn_hoJ, kn_hoR, kn_hoN, kn_hoC, kn_hoP, kn_paI, kn_paJ, kn_paQ, kn_hpF, kuI_ha, kuI_ga, kuI_pa, kuI_hA, kuI_ln, kuB_ha, kuB_ga, kuB_pa, kuB_hA, kuB_ln, kuJ_ha, kuJ_ga, kuJ_pa, kuJ_hA, kuJ_ln, kuQ_ha, kuQ_ga, kuQ_pa, kuQ_hA, kuQ_ln, kuO_fI, kuO_fJ, kuO_fR, kuO_fN, kuO_oI, kuO_oJ, kuO_oR, kuO_oN, kuO_oC, kuO_oP, kuO_pF, kvI_s, kvJ_s, kvR_s, kvN_s, kvN_0, kvN_v, kpI_s, kpJ_s, kpR_s, kpN_s, kpN_0, kpN_v, List.getElem?_cons_zero, List.getElem?_cons_succ, List.set_cons_zero, List.set_cons_succ, List.length_cons, List.length_nil, forall_eq, exists_eq_left', Option.some.injEq, true_and, and_true, reduceIte, Nat.reduceEqDiff, Nat.reduceAdd, Nat.reduceLT, hup_hup, hup_at, eq_self, if_true, if_false, implies_true, true_implies, false_implies, not_true_eq_false, not_false_eq_true, or_true, true_or, i32_10, i32_01, kI_new, kB_new, kJ_new, kI_new2, kB_new2, kJ_new2, kQ_new, kO_new, zkd, zijd, zip1, zip, zim1, i32_natN, ziL, zi_0, zi_1, kO_fI oT, kO_fJ oT, kO_fR oT, kO_fN oT, kO_oI oT, kO_oJ oT, kO_oR oT, kO_oN oT, kO_oC oT, kO_oP oT, kO_pF oT, kO_fI oo1, kO_fJ oo1, kO_fR oo1, kO_fN oo1, kO_oI oo1, kO_oJ oo1, kO_oR oo1, kO_oN oo1, kO_oC oo1, kO_oP oo1, kO_pF oo1, kvr_0]
  refine ⟨8, 36, by omega, by omega, ?_⟩
  generalize hS0 : hup S T (kO 6 [.ref fa, .int (i32 dg), .ref L1, .ref L2, .ref P, .null, .long (i64 hv0), .ref (A 0)]) = S0
  have hF0 : kF (fun q => q = T) S S0 := by rw [← hS0]; exact kF.up _ rfl
  have oT0 : S0 T = some (kTo fa dg L1 L2 P none hv0 (A 0)) := by rw [← hS0, hup_at]; rfl
  have hG0 : kG m m S S0 := hF0.G (fun q h => hm q (Or.inr (Or.inl h)))
  rw [show (zpL pa : Int) - 1 = ((zpL pa - 1 : Nat) : Int) from by omega]
  have hlk := kC_looks hA (S0 := S0) (hF0.at o0 (nT 0 (by omega))) hp2 hp7 hM hM2 (fa := fa) (L1 := L1) (L2 := L2) (dg := dg) hm (hW.G hG0) hv hkm (by rw [← hS0]; exact hs.up _ nT) nT nP ⟨_, oT0⟩ ⟨_, hF0.at iP nPT⟩ ra (zpL pa - 1) (by omega) 8 0 S0 none hv0 rw_ 8 36 (fun S19 => hoN S19 T 6 5 ∧ ∃ a26z, hfN S19 T 5 = some a26z ∧ Q a26z S19) (by have := hv.2.1; omega) (kF.refl _) (by rw [← hS0]; exact hs.up _ nT) oT0 (by rw [e0]; exact hF0.at iP nPT) (by rw [Nat.zero_mul]; exact Or.inl ⟨by show (-1 : Int) < 0; omega, rfl⟩) (by rw [show zpL pa - 1 - (zpL pa - 1) = 0 from by omega]; exact hF0.at jr (fun e => hrw (Or.inr (Or.inl e)))) ?_ (by rw [show zpL pa - 1 + 1 = zpL pa from by omega]; omega) (by rw [show zpL pa - 1 + 1 = zpL pa from by omega]; omega) ?_
  · rw [Nat.zero_mul, ez] at hlk
    exact hlk
  · rintro ((h | h | ⟨r, i, h1, h2, h3, h⟩) | h | h | h)
    · exact hrw (Or.inl (Or.inl h))
    · exact hrw (Or.inl (Or.inr (Or.inl h)))
    · exact hrw (Or.inl (Or.inr (Or.inr ⟨r, i, h1, by have := hv.2.1; omega, h3, h⟩)))
    · exact hrw (Or.inr (Or.inl h))
    · exact hrw (Or.inr (Or.inr h))
    · have := hF0.at jr (fun e => hrw (Or.inr (Or.inl e)))
      rw [this] at h
      cases h
  · intro S1 hd' hv' hF1 hS1 oT1 iP1 hB1
    rw [e0] at iP1
    rw [show (0 + 1) * zpD pa (zpL pa - 1 + 1) = zpD pa (zpL pa) from by rw [show zpL pa - 1 + 1 = zpL pa from by omega, Nat.zero_add, Nat.one_mul], show zbs M p pa a (zpD pa (zpL pa)) = zhd M p pa a from rfl] at hB1
    rcases hB1 with ⟨h, _⟩ | ⟨h1, h2, h3, h, t, e1, e2, e3, e4, e5⟩
    · omega
    · subst e1
      try simp (disch := first | assumption | omega) only [zl32, zl64, i32_add, i32_sub, i32_mul, i32_neg, i64_add, i64_sub, i64_mul, i64_neg, cv_gi, cv_gw, cv_ga, cv_gl, cv_pi, cv_pw, cv_pa, cv_pl, zf_S, zf_i, zf_l, mz1, mz2, mz3, mz4, kn_haI, kn_haJ, kn_haQ, kn_gaI, kn_gaJ, kn_gaQ, kn_hoA, kn_hlen, kn_hfI, kn_hfJ, kn_hfR, kn_hfN, kn_hoI, kn_hoJ, kn_hoR, kn_hoN, kn_hoC, kn_hoP, kn_paI, kn_paJ, kn_paQ, kn_hpF, kuI_ha, kuI_ga, kuI_pa, kuI_hA, kuI_ln, kuB_ha, kuB_ga, kuB_pa, kuB_hA, kuB_ln, kuJ_ha, kuJ_ga, kuJ_pa, kuJ_hA, kuJ_ln, kuQ_ha, kuQ_ga, kuQ_pa, kuQ_hA, kuQ_ln, kuO_fI, kuO_fJ, kuO_fR, kuO_fN, kuO_oI, kuO_oJ, kuO_oR, kuO_oN, kuO_oC, kuO_oP, kuO_pF, kvI_s, kvJ_s, kvR_s, kvN_s, kvN_0, kvN_v, kpI_s, kpJ_s, kpR_s, kpN_s, kpN_0, kpN_v, List.getElem?_cons_zero, List.getElem?_cons_succ, List.set_cons_zero, List.set_cons_succ, List.length_cons, List.length_nil, forall_eq, exists_eq_left', Option.some.injEq, true_and, and_true, reduceIte, Nat.reduceEqDiff, Nat.reduceAdd, Nat.reduceLT, hup_hup, hup_at, eq_self, if_true, if_false, implies_true, true_implies, false_implies, not_true_eq_false, not_false_eq_true, or_true, true_or, i32_10, i32_01, kI_new, kB_new, kJ_new, kI_new2, kB_new2, kJ_new2, kQ_new, kO_new, zkd, zijd, zip1, zip, zim1, i32_natN, ziL, zi_0, zi_1, kO_fI oT1, kO_fJ oT1, kO_fR oT1, kO_fN oT1, kO_oI oT1, kO_oJ oT1, kO_oR oT1, kO_oN oT1, kO_oC oT1, kO_oP oT1, kO_pF oT1, kvr_s]
      rw [zhm_j hz3] at e5
      rw [zhr_j] at e4
      have hnS : ∀ q, S0 q = none → S q = none := by
        intro q hq
        rcases hzz : S q with _ | y
        · rfl
        · by_cases c : q = T
          · rw [c, oT0] at hq; cases hq
          · rw [hF0 q y hzz c] at hq; cases hq
      refine q S1 h t (hnS h e2) (hnS t e3) ?_ hS1 (by rw [h3] at oT1; exact oT1) iP1 e4 e5
      intro q y hq hmq
      refine hF1 q y (hF0 q y hq (fun e => hmq (Or.inr (Or.inl e)))) ?_
      rintro ((h | h | ⟨r, i, h1, h2, h3, h⟩) | h | h | h)
      · exact hmq (Or.inl (Or.inl h))
      · exact hmq (Or.inl (Or.inr (Or.inl h)))
      · exact hmq (Or.inl (Or.inr (Or.inr ⟨r, i, h1, by have := hv.2.1; omega, h3, h⟩)))
      · exact hmq (Or.inr (Or.inl h))
      · exact hmq (Or.inr (Or.inr h))
      · have := hF0 q y hq (fun e => hmq (Or.inr (Or.inl e)))
        rw [this] at h
        cases h
