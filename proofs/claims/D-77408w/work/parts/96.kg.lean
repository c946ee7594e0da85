/-! CLASS 33: splits: the factors -/
set_option maxRecDepth 100000
theorem kTg.nit {Kc A h : Nat → Nat} {p M : Int} {tr : Option Nat} {dg : Int} {f : Nat → Int} {E1 E2 : Nat} {S : hH} {kn lf : Nat → Nat} {Tt : zT} (ht : kTg Kc A h p M tr dg f E1 E2 S kn lf Tt) {it : Nat} {c : Nat} {fs : List Value} (oi : S it = some (kO c fs)) (hc : c ≠ 6 ∧ c ≠ 16) : ¬ kMu Kc A h E1 E2 it := by
  obtain ⟨hd, hv, oT⟩ := ht.2.1
  obtain ⟨c1, ⟨⟨v1, L1⟩, ⟨fe1, q1, _⟩, _⟩, _⟩ := ht.2.2.2.2.1
  obtain ⟨c2, ⟨⟨v2, L2⟩, ⟨fe2, q2, _⟩, _⟩, _⟩ := ht.2.2.2.2.2.1
  have hsc := ht.scn oi (fun _ _ e => by cases e) (fun _ _ e => by cases e) (fun _ _ _ e => by cases e)
  rintro (e | e | e | e | e | ⟨_, e | e⟩)
  · exact hsc e
  · rw [e, oT] at oi; cases oi; exact hc.1 rfl
  · rw [e, L1] at oi; cases oi; exact hc.2 rfl
  · rw [e, L2] at oi; cases oi; exact hc.2 rfl
  · rw [e, ht.2.2.1] at oi; cases oi
  · rw [e, q1] at oi; cases oi
  · rw [e, q2] at oi; cases oi
theorem kmk_s {kn : Nat → Nat} {l : zL} {n : Nat} (h : l.2.2.2.2 = (n : Int)) : kmk kn l = some (kn n) := by
  unfold kmk
  rw [h, if_neg (by omega), Int.toNat_natCast]
/-- the way goes on to a child -/
theorem kWy.ext {m : Nat → Prop} {S : hH} {w sd : Nat → Nat} {pa : zP} (hW : kWy m S w sd pa) (hL : 1 ≤ zpL pa) {n : Nat} {key : Nat → Int} {ram : Nat} {slope root : Int} {mono : Nat → Int} {q by_ : Nat} {mf nu wo fi ix : Int} {ka pt sl : Nat} (oq : kc m S q (kKo (some (w (zpL pa))) (some by_) root ((zpL pa : Int) + 1) mf nu ka (zpD pa (zpL pa) * (ram : Int)) wo pt sl fi ix)) (jk : kc m S ka (kJ 9 key)) {b e f dg : Int} {mo t : Nat} {rs : Option Nat} {r : Int} (ob : kc m S by_ (kSo b e f ram dg slope (some mo) rs)) (om : kc m S mo (kMo t r)) (it : kc m S t (kI 7 mono)) :
    kWy m S (kA' w (zpL pa + 1) q) (kA' sd (zpL pa) by_) (zext pa n key ram slope root mono) := by
  refine ⟨fun k h1 h2 => ?_, fun k h1 h2 => ?_⟩
  · have h2 : k ≤ zpL pa + 1 := h2
    by_cases c : k = zpL pa + 1
    · subst c
      refine ⟨root, mf, nu, ka, wo, pt, sl, fi, ix, ?_, ?_, fun _ => ?_⟩
      · rw [zext_DL pa n key ram slope root mono hL]
        have e1 : kup (kA' w (zpL pa + 1) q) (zpL pa + 1) = some (w (zpL pa)) := by
          unfold kup
          rw [if_neg (by omega), Nat.add_sub_cancel, kA'_ne _ (by omega)]
        have e2 : kup (kA' sd (zpL pa) by_) (zpL pa + 1) = some by_ := by
          unfold kup
          rw [if_neg (by omega), Nat.add_sub_cancel, kA'_at]
        rw [e1, e2, kA'_at]
        exact oq
      · show kc m S ka (kJ 9 (if zpL pa + 1 = zpL pa + 1 then key else zpK pa (zpL pa + 1)))
        rw [if_pos rfl]
        exact jk
      · show root = if zpL pa + 1 - 1 = zpL pa then root else zpO pa (zpL pa + 1 - 1)
        rw [if_pos (by omega)]
    · obtain ⟨root', mf', nu', ka', wo', pt', sl', fi', ix', a1, a2, a3⟩ := hW.1 k h1 (by omega)
      refine ⟨root', mf', nu', ka', wo', pt', sl', fi', ix', ?_, ?_, fun hk2 => ?_⟩
      · rw [zext_D pa n key ram slope root mono k (by omega), kA'_ne _ c]
        have e1 : kup (kA' w (zpL pa + 1) q) k = kup w k := by
          unfold kup
          by_cases c1 : k = 1
          · rw [if_pos c1, if_pos c1]
          · rw [if_neg c1, if_neg c1, kA'_ne _ (by omega)]
        have e2 : kup (kA' sd (zpL pa) by_) k = kup sd k := by
          unfold kup
          by_cases c1 : k = 1
          · rw [if_pos c1, if_pos c1]
          · rw [if_neg c1, if_neg c1, kA'_ne _ (by omega)]
        rw [e1, e2]
        exact a1
      · show kc m S ka' (kJ 9 (if k = zpL pa + 1 then key else zpK pa k))
        rw [if_neg c]
        exact a2
      · show root' = if k - 1 = zpL pa then root else zpO pa (k - 1)
        rw [if_neg (by omega)]
        exact a3 hk2
  · have h2 : k < zpL pa + 1 := h2
    by_cases c : k = zpL pa
    · subst c
      refine ⟨b, e, f, dg, mo, rs, t, r, ?_, om, ?_⟩
      · show kc m S (kA' sd (zpL pa) by_ (zpL pa)) (kSo b e f ((if zpL pa = zpL pa then ram else zpR pa (zpL pa) : Nat) : Int) dg (if zpL pa = zpL pa then slope else zpS pa (zpL pa)) (some mo) rs)
        rw [kA'_at, if_pos rfl, if_pos rfl]
        exact ob
      · show kc m S t (kI 7 (if zpL pa = zpL pa then mono else zpM pa (zpL pa)))
        rw [if_pos rfl]
        exact it
    · obtain ⟨b', e', f', dg', mo', rs', t', r', a1, a2, a3⟩ := hW.2 k h1 (by omega)
      refine ⟨b', e', f', dg', mo', rs', t', r', ?_, a2, ?_⟩
      · show kc m S (kA' sd (zpL pa) by_ k) (kSo b' e' f' ((if k = zpL pa then ram else zpR pa k : Nat) : Int) dg' (if k = zpL pa then slope else zpS pa k) (some mo') rs')
        rw [kA'_ne _ c, if_neg c, if_neg c]
        exact a1
      · show kc m S t' (kI 7 (if k = zpL pa then mono else zpM pa k))
        rw [if_neg c]
        exact a3
theorem zPre.len {T T' : zT} (h : zPre T T') : T.1.length ≤ T'.1.length := by
  rcases Nat.eq_zero_or_pos T.1.length with c | c
  · omega
  · have hx : T.1[T.1.length - 1]? = some T.1[T.1.length - 1] := List.getElem?_eq_getElem (by omega)
    have := (List.getElem?_eq_some_iff.mp (h _ _ hx)).1
    omega
theorem kchild {M p : Int} (hp : zpr p) (hM : 1 < M) {pa : zP} (hg : zGood M p pa) (hkm : zKm pa) (hL : zpL pa ≠ 6) {f : Nat → Int} {m : Nat} (hm8 : m ≤ 8) (hme : m * zpD pa (zpL pa) ≤ 8) {x : Nat × Nat} (hx : zSf M p f pa m x) {y : zF} (hr : 0 < zroot p y ∧ zroot p y < p) (hb : y.2.1 ≤ zgd (zpts M p pa f m) x.1 x.2) (h2 : 2 ≤ y.2.1) (n : Nat) {pa' : zP} (e : pa' = zext pa n (znk M p pa (zrm (zpts M p pa f m) x.1 x.2) (zvm pa (zsl pa (zpts M p pa f m) x.1 x.2)) (zroot p y)) (zrm (zpts M p pa f m) x.1 x.2) (zsl pa (zpts M p pa f m) x.1 x.2) (zroot p y) (zvm pa (zsl pa (zpts M p pa f m) x.1 x.2))) :
    zGood M p pa' ∧ zKm pa' ∧ zpL pa' = zpL pa + 1 ∧ zpD pa' (zpL pa + 1) = zpD pa (zpL pa) * zrm (zpts M p pa f m) x.1 x.2 ∧ y.2.1 ≤ 8 ∧ y.2.1 * (zrm (zpts M p pa f m) x.1 x.2 * zpD pa (zpL pa)) ≤ 8 ∧ zpA pa' (zpL pa + 1) = n ∧ (∀ k, k ≤ zpL pa → zpA pa' k = zpA pa k) ∧ zlift pa' = (zrm (zpts M p pa f m) x.1 x.2 : Int) * zsl pa (zpts M p pa f m) x.1 x.2 := by
  obtain ⟨h1, hx2, h3, h4⟩ := hx
  obtain ⟨g1, g2, g3, g4, g5, g6, g7⟩ := zgd_ok h1 h4
  have hL1 := hg.1.1
  have hL6 := hg.1.2.1
  have hD := hg.1.D (k := zpL pa) hL1 (Nat.le_refl _)
  have hw1 : y.2.1 * zrm (zpts M p pa f m) x.1 x.2 ≤ m := by
    have : y.2.1 * zrm (zpts M p pa f m) x.1 x.2 ≤ zgd (zpts M p pa f m) x.1 x.2 * zrm (zpts M p pa f m) x.1 x.2 := Nat.mul_le_mul_right _ hb
    omega
  have hw2 : y.2.1 * (zrm (zpts M p pa f m) x.1 x.2 * zpD pa (zpL pa)) ≤ 8 := by
    have : y.2.1 * zrm (zpts M p pa f m) x.1 x.2 * zpD pa (zpL pa) ≤ m * zpD pa (zpL pa) := Nat.mul_le_mul_right _ hw1
    rw [← Nat.mul_assoc]
    omega
  have hw3 : zpD pa (zpL pa) * zrm (zpts M p pa f m) x.1 x.2 ≤ 4 := by
    have : 2 * (zrm (zpts M p pa f m) x.1 x.2 * zpD pa (zpL pa)) ≤ y.2.1 * (zrm (zpts M p pa f m) x.1 x.2 * zpD pa (zpL pa)) := Nat.mul_le_mul_right _ h2
    rw [Nat.mul_comm (zpD pa (zpL pa))]
    omega
  have gd := zchild_good (f := f) (m := m) hp (show 0 < M by omega) hg (by omega) hm8 h1 h3 h4 n (znk_red (p := p) (pa := pa) (ram := zrm (zpts M p pa f m) x.1 x.2) (sm := zvm pa (zsl pa (zpts M p pa f m) x.1 x.2)) (root := zroot p y) (show 0 < M by omega)) hr hw3
  have hk := zKm_ext (p := p) hM hg.1 hkm (sm := zvm pa (zsl pa (zpts M p pa f m) x.1 x.2)) (fun k k1 k2 => ?_) g4 (by rw [Nat.mul_comm]; omega) (zroot p y) (zsl pa (zpts M p pa f m) x.1 x.2) n
  · rw [← e] at gd hk
    refine ⟨gd, hk, by rw [e]; rfl, by rw [e]; exact zext_DL _ _ _ _ _ _ _ hL1, by omega, hw2, ?_, fun k hk => ?_, ?_⟩
    · rw [e]
      show (if zpL pa + 1 = zpL pa + 1 then n else _) = n
      rw [if_pos rfl]
    · rw [e]
      show (if k = zpL pa + 1 then n else zpA pa k) = _
      rw [if_neg (by omega)]
    · rw [e]
      unfold zlift
      show (if zpL pa + 1 = 1 then (0 : Int) else ((if zpL pa + 1 - 1 = zpL pa then zrm (zpts M p pa f m) x.1 x.2 else zpR pa (zpL pa + 1 - 1) : Nat) : Int) * (if zpL pa + 1 - 1 = zpL pa then zsl pa (zpts M p pa f m) x.1 x.2 else zpS pa (zpL pa + 1 - 1))) = _
      rw [if_neg (by omega), if_pos (by omega), if_pos (by omega)]
  · have ht := (zft_ok (n := zvn pa (zsl pa (zpts M p pa f m) x.1 x.2) (zpL pa - 1 - k)) (hg.2.1 k k1 k2).1).1
    have : zvm pa (zsl pa (zpts M p pa f m) x.1 x.2) k = zft (zvn pa (zsl pa (zpts M p pa f m) x.1 x.2) (zpL pa - 1 - k)) (zpS pa k) (zpR pa k) := by
      unfold zvm
      rw [if_neg (by omega), if_pos k2]
    rw [this]
    omega
theorem kC_roots {Kc A h : Nat → Nat} {La : Nat → Prop} (hA : kInj A La) (hh : kHs A h) (hA0 : ∀ k, k < 90 → Kc 0 ≠ A k) {p M : Int} {tr : Option Nat} {dg : Int} {f : Nat → Int} (hp : zpr p) (hMp : M = p ^ zlim p) (hM : 1 < M) (hM2 : M < 536870912) (hf9 : zred M 9 f) {d : Nat} {self : Nat → Nat → hH → Nat → Nat → (hH → Prop) → Prop} (hself : kGrow Kc A h p M tr dg f d self) {pa : zP} (hg : zGood M p pa) (hkm : zKm pa) (hLd : zpL pa + (d + 1) = 7) {m : Nat} (hm8 : m ≤ 8) (hme : m * zpD pa (zpL pa) ≤ 8) {x : Nat × Nat} (hx : zSf M p f pa m x) {w sd : Nat → Nat} {Sb : hH} {E1b E2b : Nat} (hWb : kWy (kMu Kc A h E1b E2b) Sb w sd pa) {ab bb : Option Nat} {rt fi ix : Int} {ka pt sl : Nat} (oob : kc (kMu Kc A h E1b E2b) Sb (w (zpL pa)) (kKo ab bb rt (zpL pa) m (zpA pa (zpL pa)) ka (zpD pa (zpL pa)) (zlift pa) pt sl fi ix)) {by_ mo tm : Nat} {sf : Int} {rs : Option Nat} (obb : kc (kMu Kc A h E1b E2b) Sb by_ (kSo x.1 x.2 sf (zrm (zpts M p pa f m) x.1 x.2) (zgd (zpts M p pa f m) x.1 x.2) (zsl pa (zpts M p pa f m) x.1 x.2) (some mo) rs)) (omb : kc (kMu Kc A h E1b E2b) Sb mo (kMo tm 1)) (imb : kc (kMu Kc A h E1b E2b) Sb tm (kI 7 (zvm pa (zsl pa (zpts M p pa f m) x.1 x.2)))) {fs : List zF} {fl Ef capf : Nat} {fe : Nat → Option Nat} {g : Nat → Nat} {v : Int32} (olb : kc (kMu Kc A h E1b E2b) Sb fl (kO 16 [.int v, .ref Ef, .int (i32 fs.length)])) (qfb : kc (kMu Kc A h E1b E2b) Sb Ef (kQ 3 capf fe)) (hfe : ∀ j, j < fs.length → fe j = some (g j)) (hlen : fs.length ≤ capf) (hcapf : capf ≤ 1000) (hfk : ∀ (j : Nat) (y : zF), fs[j]? = some y → ∃ a, kc (kMu Kc A h E1b E2b) Sb (g j) (kO 5 [.ref a, .int (i32 y.1), .int (i32 y.2.1)]) ∧ kc (kMu Kc A h E1b E2b) Sb a (kI 9 y.2.2)) (hfok : ∀ y, y ∈ fs → (zfok y ∧ 0 < zroot p y ∧ zroot p y < p) ∧ zred p 9 y.2.2) (hsum : zsum fs ≤ zgd (zpts M p pa f m) x.1 x.2) {kn0 : Nat → Nat} {n0 : Nat} (hw0 : ∀ k, 1 ≤ k → k ≤ zpL pa → w k = kn0 (zpA pa k) ∧ zpA pa k < n0) {it : Nat} (hit : Sb it = none) (mc ms : Nat) (Q : hH → Prop) :
    ∀ n k : Nat, k + n = fs.length → ∀ (S : hH) (E1 E2 : Nat) (kn lf : Nat → Nat) (Tt : zT) (lr : Int) (kc' nc' : Nat), kTg Kc A h p M tr dg f E1 E2 S kn lf Tt → kG (kMu Kc A h E1b E2b) (kMu Kc A h E1 E2) Sb S → S it = some (kIt k lr v fl) → (∀ i, i < n0 → kn i = kn0 i) → n0 ≤ Tt.1.length → kKrs (kMu Kc A h E1 E2) S kn M p f n0 Tt.1 → zCap M p f (zsum (fs.drop k) * (zrm (zpts M p pa f m) x.1 x.2 * zpD pa (zpL pa))) d Tt →
      kc' + zsum (fs.drop k) * (zrm (zpts M p pa f m) x.1 x.2 * zpD pa (zpL pa)) * (40 + 300 * d) ≤ mc → nc' + zsum (fs.drop k) * (zrm (zpts M p pa f m) x.1 x.2 * zpD pa (zpL pa)) * (340 + 3000 * d) ≤ ms →
      (∀ S1 E1' E2' kn' lf', kTg Kc A h p M tr dg f E1' E2' S1 kn' lf' ((fs.drop k).foldl (zch (zGk M p f d) M p pa (zside M p pa f (zpts M p pa f m) x)) Tt) → kG (kMu Kc A h E1b E2b) (kMu Kc A h E1' E2') Sb S1 → (∀ i, i < n0 → kn' i = kn0 i) → kKrs (kMu Kc A h E1' E2') S1 kn' M p f n0 ((fs.drop k).foldl (zch (zGk M p f d) M p pa (zside M p pa f (zpts M p pa f m) x)) Tt).1 → Q S1) →
      wX6_splits_l182 Kc self mc ms Q (h 0) (w (zpL pa)) by_ (i32 ((zpD pa (zpL pa) * zrm (zpts M p pa f m) x.1 x.2 : Nat) : Int)) it (n + 1) kc' nc' S := by
  have hv := hg.1
  have hL1 := hv.1
  have hL6 := hv.2.1
  have hp7 : 2 ≤ p ∧ p ≤ 7 := by unfold zpr at hp; omega
  obtain ⟨x1, x2, x3, x4⟩ := hx
  have hgd := zgd_ok x1 x4
  have hD := hv.D hL1 (Nat.le_refl _)
  have hw1 := hw0 (zpL pa) hL1 (Nat.le_refl _)
  have hA1 : ∀ k, 1 ≤ k → k < 77 → A 0 ≠ A k := fun k h1 h2 => hA.ne (by omega) (by omega) (by omega)
  have hrD : 1 ≤ zrm (zpts M p pa f m) x.1 x.2 * zpD pa (zpL pa) := Nat.mul_pos hgd.2.2.2.1 hD.1
  have hrD8 : zrm (zpts M p pa f m) x.1 x.2 * zpD pa (zpL pa) ≤ 8 := by
    have h1 : zrm (zpts M p pa f m) x.1 x.2 ≤ zgd (zpts M p pa f m) x.1 x.2 * zrm (zpts M p pa f m) x.1 x.2 := Nat.le_mul_of_pos_left _ hgd.1
    have h2 : zrm (zpts M p pa f m) x.1 x.2 * zpD pa (zpL pa) ≤ m * zpD pa (zpL pa) := Nat.mul_le_mul_right _ (by omega)
    omega
  intro n
  induction n with
  | zero =>
    intro k hk S E1 E2 kn lf Tt lr kc' nc' ht hG oi hkn hn0 hrec hcap hb1 hb2 hR
    have olS := hG _ _ olb
    rw [wX6_splits_l182]
    try simp (disch := first | assumption | omega) only [zl32, zl64, i32_add, i32_sub, i32_mul, i32_neg, i64_add, i64_sub, i64_mul, i64_neg, cv_gi, cv_gw, cv_ga, cv_gl, cv_pi, cv_pw, cv_pa, cv_pl, zf_S, zf_i, zf_l, mz1, mz2, mz3, mz4, kn_haI, kn_haJ, kn_haQ, kn_gaI, kn_gaJ, kn_gaQ, kn_hoA, kn_hlen, kn_hfI, kn_hfJ, kn_hfR, kn_hfN, kn_hoI, kn_hoJ, kn_hoR, kn_hoN, kn_hoC, kn_hoP, kn_paI, kn_paJ, kn_paQ, kn_hpF, kuI_ha, kuI_ga, kuI_pa, kuI_hA, kuI_ln, kuB_ha, kuB_ga, kuB_pa, kuB_hA, kuB_ln, kuJ_ha, kuJ_ga, kuJ_pa, kuJ_hA, kuJ_ln, kuQ_ha, kuQ_ga, kuQ_pa, kuQ_hA, kuQ_ln, kuO_fI, kuO_fJ, kuO_fR, kuO_fN, kuO_oI, kuO_oJ, kuO_oR, kuO_oN, kuO_oC, kuO_oP, kuO_pF, kvI_s, kvJ_s, kvR_s, kvN_s, kvN_0, kvN_v, kpI_s, kpJ_s, kpR_s, kpN_s, kpN_0, kpN_v, List.getElem?_cons_zero, List.getElem?_cons_succ, List.set_cons_zero, List.set_cons_succ, List.length_cons, List.length_nil, forall_eq, exists_eq_left', Option.some.injEq, true_and, and_true, reduceIte, Nat.reduceEqDiff, Nat.reduceAdd, Nat.reduceLT, hup_hup, hup_at, eq_self, if_true, if_false, implies_true, true_implies, false_implies, not_true_eq_false, not_false_eq_true, or_true, true_or, i32_10, i32_01, kI_new, kB_new, kJ_new, kI_new2, kB_new2, kJ_new2, kQ_new, kO_new, zkd, zijd, zip1, zip, zim1, i32_natN, ziL, zi_0, zi_1, kO_fI oi, kO_fJ oi, kO_fR oi, kO_fN oi, kO_oI oi, kO_oJ oi, kO_oR oi, kO_oN oi, kO_oC oi, kO_oP oi, kO_pF oi]
    refine kC_hasNext oi olS.1 (by omega) (by omega) _ (fun e => ?_) (fun e => absurd (by omega) e)
    try simp (disch := first | assumption | omega) only [zl32, zl64, i32_add, i32_sub, i32_mul, i32_neg, i64_add, i64_sub, i64_mul, i64_neg, cv_gi, cv_gw, cv_ga, cv_gl, cv_pi, cv_pw, cv_pa, cv_pl, zf_S, zf_i, zf_l, mz1, mz2, mz3, mz4, kn_haI, kn_haJ, kn_haQ, kn_gaI, kn_gaJ, kn_gaQ, kn_hoA, kn_hlen, kn_hfI, kn_hfJ, kn_hfR, kn_hfN, kn_hoI, kn_hoJ, kn_hoR, kn_hoN, kn_hoC, kn_hoP, kn_paI, kn_paJ, kn_paQ, kn_hpF, kuI_ha, kuI_ga, kuI_pa, kuI_hA, kuI_ln, kuB_ha, kuB_ga, kuB_pa, kuB_hA, kuB_ln, kuJ_ha, kuJ_ga, kuJ_pa, kuJ_hA, kuJ_ln, kuQ_ha, kuQ_ga, kuQ_pa, kuQ_hA, kuQ_ln, kuO_fI, kuO_fJ, kuO_fR, kuO_fN, kuO_oI, kuO_oJ, kuO_oR, kuO_oN, kuO_oC, kuO_oP, kuO_pF, kvI_s, kvJ_s, kvR_s, kvN_s, kvN_0, kvN_v, kpI_s, kpJ_s, kpR_s, kpN_s, kpN_0, kpN_v, List.getElem?_cons_zero, List.getElem?_cons_succ, List.set_cons_zero, List.set_cons_succ, List.length_cons, List.length_nil, forall_eq, exists_eq_left', Option.some.injEq, true_and, and_true, reduceIte, Nat.reduceEqDiff, Nat.reduceAdd, Nat.reduceLT, hup_hup, hup_at, eq_self, if_true, if_false, implies_true, true_implies, false_implies, not_true_eq_false, not_false_eq_true, or_true, true_or, i32_10, i32_01, kI_new, kB_new, kJ_new, kI_new2, kB_new2, kJ_new2, kQ_new, kO_new, zkd, zijd, zip1, zip, zim1, i32_natN, ziL, zi_0, zi_1, kO_fI oi, kO_fJ oi, kO_fR oi, kO_fN oi, kO_oI oi, kO_oJ oi, kO_oR oi, kO_oN oi, kO_oC oi, kO_oP oi, kO_pF oi]
    have hd0 : fs.drop k = [] := List.drop_eq_nil_of_le (by omega)
    rw [hd0] at hR
    exact hR S E1 E2 kn lf ht hG hkn hrec
  | succ n ih =>
    intro k hk S E1 E2 kn lf Tt lr kc' nc' ht hG oi hkn hn0 hrec hcap hb1 hb2 hR
    have olS := hG _ _ olb
    have qfS := hG _ _ qfb
    have hkl : k < fs.length := by omega
    have hyk : fs[k]? = some fs[k] := List.getElem?_eq_getElem hkl
    have hdk : fs.drop k = fs[k] :: fs.drop (k + 1) := List.drop_eq_getElem_cons hkl
    generalize fs[k] = y at hyk hdk
    have hym : y ∈ fs := List.mem_of_getElem? hyk
    obtain ⟨⟨⟨hy1, hy2⟩, hr1, hr2⟩, hyr⟩ := hfok y hym
    have hsplit : zsum (fs.drop k) = y.1 * y.2.1 + zsum (fs.drop (k + 1)) := by rw [hdk]; rfl
    rw [hdk, List.foldl_cons] at hR
    rw [hsplit, Nat.add_mul] at hcap hb1 hb2
    rw [Nat.add_mul] at hb1 hb2
    have hyp : 1 ≤ y.1 * y.2.1 := Nat.mul_pos hy1 hy2
    have hyb : 1 ≤ y.1 * y.2.1 * (zrm (zpts M p pa f m) x.1 x.2 * zpD pa (zpL pa)) := Nat.mul_pos hyp hrD
    have hzy : y.1 * y.2.1 ≤ zgd (zpts M p pa f m) x.1 x.2 := by
      have : zsum (fs.drop k) ≤ zsum fs := by
        clear hR hcap hb1 hb2 ih
        have key : ∀ (l : List zF) (j : Nat), zsum (l.drop j) ≤ zsum l := by
          intro l
          induction l with
          | nil => intro j; rw [List.drop_nil]; exact Nat.le_refl _
          | cons z l ihl =>
            intro j
            cases j with
            | zero => exact Nat.le_refl _
            | succ j =>
              rw [List.drop_succ_cons]
              have := ihl j
              show _ ≤ z.1 * z.2.1 + zsum l
              omega
        exact key fs k
      omega
    have hcn := hcap.next (zch_bd hp (by omega) (zGk_bd hp (by omega) hM2 hf9 d (zpL pa + 1) (by omega)) hg hm8 hme ⟨x1, x2, x3, x4⟩ y ⟨⟨hy1, hy2⟩, hr1, hr2⟩ hzy Tt)
    have hbc : 1 * (40 + 300 * d) ≤ y.1 * y.2.1 * (zrm (zpts M p pa f m) x.1 x.2 * zpD pa (zpL pa)) * (40 + 300 * d) := Nat.mul_le_mul_right _ hyb
    have hbs : 1 * (340 + 3000 * d) ≤ y.1 * y.2.1 * (zrm (zpts M p pa f m) x.1 x.2 * zpD pa (zpL pa)) * (340 + 3000 * d) := Nat.mul_le_mul_right _ hyb
    have htn := ht.nit oi (by decide)
    have hT8 : Tt.2.length < 9 := by have := hcap.2.2; omega
    have hy18 : y.1 ≤ 8 ∧ y.2.1 ≤ 8 := by
      have h1 : y.1 ≤ y.1 * y.2.1 := Nat.le_mul_of_pos_right _ hy2
      have h2 : y.2.1 ≤ y.1 * y.2.1 := Nat.le_mul_of_pos_left _ hy1
      omega
    rw [wX6_splits_l182]
    try simp (disch := first | assumption | omega) only [zl32, zl64, i32_add, i32_sub, i32_mul, i32_neg, i64_add, i64_sub, i64_mul, i64_neg, cv_gi, cv_gw, cv_ga, cv_gl, cv_pi, cv_pw, cv_pa, cv_pl, zf_S, zf_i, zf_l, mz1, mz2, mz3, mz4, kn_haI, kn_haJ, kn_haQ, kn_gaI, kn_gaJ, kn_gaQ, kn_hoA, kn_hlen, kn_hfI, kn_hfJ, kn_hfR, kn_hfN, kn_hoI, kn_hoJ, kn_hoR, kn_hoN, kn_hoC, kn_hoP, kn_paI, kn_paJ, kn_paQ, kn_hpF, kuI_ha, kuI_ga, kuI_pa, kuI_hA, kuI_ln, kuB_ha, kuB_ga, kuB_pa, kuB_hA, kuB_ln, kuJ_ha, kuJ_ga, kuJ_pa, kuJ_hA, kuJ_ln, kuQ_ha, kuQ_ga, kuQ_pa, kuQ_hA, kuQ_ln, kuO_fI, kuO_fJ, kuO_fR, kuO_fN, kuO_oI, kuO_oJ, kuO_oR, kuO_oN, kuO_oC, kuO_oP, kuO_pF, kvI_s, kvJ_s, kvR_s, kvN_s, kvN_0, kvN_v, kpI_s, kpJ_s, kpR_s, kpN_s, kpN_0, kpN_v, List.getElem?_cons_zero, List.getElem?_cons_succ, List.set_cons_zero, List.set_cons_succ, List.length_cons, List.length_nil, forall_eq, exists_eq_left', Option.some.injEq, true_and, and_true, reduceIte, Nat.reduceEqDiff, Nat.reduceAdd, Nat.reduceLT, hup_hup, hup_at, eq_self, if_true, if_false, implies_true, true_implies, false_implies, not_true_eq_false, not_false_eq_true, or_true, true_or, i32_10, i32_01, kI_new, kB_new, kJ_new, kI_new2, kB_new2, kJ_new2, kQ_new, kO_new, zkd, zijd, zip1, zip, zim1, i32_natN, ziL, zi_0, zi_1, kO_fI oi, kO_fJ oi, kO_fR oi, kO_fN oi, kO_oI oi, kO_oJ oi, kO_oR oi, kO_oN oi, kO_oC oi, kO_oP oi, kO_pF oi]
    refine kC_hasNext oi olS.1 (by omega) (by omega) _ (fun e => absurd e (by omega)) (fun e => ?_)
    try simp (disch := first | assumption | omega) only [zl32, zl64, i32_add, i32_sub, i32_mul, i32_neg, i64_add, i64_sub, i64_mul, i64_neg, cv_gi, cv_gw, cv_ga, cv_gl, cv_pi, cv_pw, cv_pa, cv_pl, zf_S, zf_i, zf_l, mz1, mz2, mz3, mz4, kn_haI, kn_haJ, kn_haQ, kn_gaI, kn_gaJ, kn_gaQ, kn_hoA, kn_hlen, kn_hfI, kn_hfJ, kn_hfR, kn_hfN, kn_hoI, kn_hoJ, kn_hoR, kn_hoN, kn_hoC, kn_hoP, kn_paI, kn_paJ, kn_paQ, kn_hpF, kuI_ha, kuI_ga, kuI_pa, kuI_hA, kuI_ln, kuB_ha, kuB_ga, kuB_pa, kuB_hA, kuB_ln, kuJ_ha, kuJ_ga, kuJ_pa, kuJ_hA, kuJ_ln, kuQ_ha, kuQ_ga, kuQ_pa, kuQ_hA, kuQ_ln, kuO_fI, kuO_fJ, kuO_fR, kuO_fN, kuO_oI, kuO_oJ, kuO_oR, kuO_oN, kuO_oC, kuO_oP, kuO_pF, kvI_s, kvJ_s, kvR_s, kvN_s, kvN_0, kvN_v, kpI_s, kpJ_s, kpR_s, kpN_s, kpN_0, kpN_v, List.getElem?_cons_zero, List.getElem?_cons_succ, List.set_cons_zero, List.set_cons_succ, List.length_cons, List.length_nil, forall_eq, exists_eq_left', Option.some.injEq, true_and, and_true, reduceIte, Nat.reduceEqDiff, Nat.reduceAdd, Nat.reduceLT, hup_hup, hup_at, eq_self, if_true, if_false, implies_true, true_implies, false_implies, not_true_eq_false, not_false_eq_true, or_true, true_or, i32_10, i32_01, kI_new, kB_new, kJ_new, kI_new2, kB_new2, kJ_new2, kQ_new, kO_new, zkd, zijd, zip1, zip, zim1, i32_natN, ziL, zi_0, zi_1, kO_fI oi, kO_fJ oi, kO_fR oi, kO_fN oi, kO_oI oi, kO_oJ oi, kO_oR oi, kO_oN oi, kO_oC oi, kO_oP oi, kO_pF oi]
    refine kC_next oi olS.1 qfS.1 hkl hlen hcapf (hfe k hkl) _ ?_
    have ht' := ht.it hh hA0 hA1 oi (kIt ((k : Int) + 1) k v fl)
    have hG' : kG (kMu Kc A h E1b E2b) (kMu Kc A h E1 E2) Sb (hup S it (kIt ((k : Int) + 1) k v fl)) := fun q z hq => ⟨by rw [hup_ne (kne hq.1 hit)]; exact (hG q z hq).1, (hG q z hq).2⟩
    have oi' : (hup S it (kIt ((k : Int) + 1) k v fl)) it = some (kIt ((k : Int) + 1) k v fl) := hup_at _ _ _
    have hrec' : kKrs (kMu Kc A h E1 E2) (hup S it (kIt ((k : Int) + 1) k v fl)) kn M p f n0 Tt.1 := hrec.fr (fun q z hz _ hq => ⟨by rw [hup_ne (kne2 hq.1 oi (fun e => hz _ e))]; exact hq.1, hq.2⟩) (fun i _ => rfl)
    generalize hup S it (kIt ((k : Int) + 1) k v fl) = S' at ht' hG' oi' hrec' ⊢
    clear hrec hG ht oi olS qfS
    obtain ⟨aa, of, ia⟩ := hfk k y hyk
    have o5 := (hG' _ _ of).1
    have ia5 := (hG' _ _ ia).1
    have o1 := (hG' _ _ oob).1
    obtain ⟨hd, hvv, oT⟩ := ht'.2.1
    have hmkr : kn (zpA pa (zpL pa)) = w (zpL pa) := by rw [hkn _ hw1.2]; exact hw1.1.symm
    refine ⟨⟨5, _, _, _, _, o5, rfl, Or.inl rfl⟩, ?_⟩
    have addL : ∀ (q : Nat) (l : zL) (kc2 nc2 : Nat) (z : hE_), S' q = none → z = kLc kn l → l.2.2.2.2 = (zpA pa (zpL pa) : Int) → zch (zGk M p f d) M p pa (zside M p pa f (zpts M p pa f m) x) Tt y = (Tt.1, Tt.2 ++ [l]) → kc2 + 1 ≤ kc' + 40 → nc2 + 30 ≤ nc' + 340 → hoC (hup S' q z) (h 2) 16 ∧ ∃ c s, kc2 + c ≤ mc ∧ nc2 + s ≤ ms ∧ wJ20_add Kc c s (hup S' q z) (h 2) q (fun _ S1 => wX6_splits_l182 Kc self mc ms Q (h 0) (w (zpL pa)) by_ (i32 ((zpD pa (zpL pa) * zrm (zpts M p pa f m) x.1 x.2 : Nat) : Int)) it (n + 1) (kc2 + c) (nc2 + s) S1) := by
      intro q l kc2 nc2 z hq hz hl ez hk2 hn2
      subst hz
      rw [ez] at hR hcn
      obtain ⟨c2, ⟨⟨v2, L2⟩, _⟩, _⟩ := ht'.2.2.2.2.2.1
      refine ⟨⟨_, by rw [hup_ne (kne L2 hq)]; exact L2⟩, 1, 30, by omega, by omega, ?_⟩
      refine kC_leafAdd hh hA0 hA1 ht' hq (l := l) (by rw [hl]; omega) hT8 1 30 (by omega) (by omega) _ (fun S1 E' ht1 hG1 => ?_)
      refine ih (k + 1) (by omega) S1 E1 E' kn _ (Tt.1, Tt.2 ++ [l]) k _ _ ht1 (hG'.trans hG1) (hG1 _ _ ⟨oi', htn⟩).1 hkn hn0 (hrec'.fr (fun q z _ _ hq => hG1 q z hq) (fun i _ => rfl)) hcn (by omega) (by omega) hR
    by_cases c1 : y.2.1 = 1
    · have d1 : i32 (y.2.1 : Int) = i32 1 := by rw [c1]; rfl
      try simp (disch := first | assumption | omega) only [zl32, zl64, i32_add, i32_sub, i32_mul, i32_neg, i64_add, i64_sub, i64_mul, i64_neg, cv_gi, cv_gw, cv_ga, cv_gl, cv_pi, cv_pw, cv_pa, cv_pl, zf_S, zf_i, zf_l, mz1, mz2, mz3, mz4, kn_haI, kn_haJ, kn_haQ, kn_gaI, kn_gaJ, kn_gaQ, kn_hoA, kn_hlen, kn_hfI, kn_hfJ, kn_hfR, kn_hfN, kn_hoI, kn_hoJ, kn_hoR, kn_hoN, kn_hoC, kn_hoP, kn_paI, kn_paJ, kn_paQ, kn_hpF, kuI_ha, kuI_ga, kuI_pa, kuI_hA, kuI_ln, kuB_ha, kuB_ga, kuB_pa, kuB_hA, kuB_ln, kuJ_ha, kuJ_ga, kuJ_pa, kuJ_hA, kuJ_ln, kuQ_ha, kuQ_ga, kuQ_pa, kuQ_hA, kuQ_ln, kuO_fI, kuO_fJ, kuO_fR, kuO_fN, kuO_oI, kuO_oJ, kuO_oR, kuO_oN, kuO_oC, kuO_oP, kuO_pF, kvI_s, kvJ_s, kvR_s, kvN_s, kvN_0, kvN_v, kpI_s, kpJ_s, kpR_s, kpN_s, kpN_0, kpN_v, List.getElem?_cons_zero, List.getElem?_cons_succ, List.set_cons_zero, List.set_cons_succ, List.length_cons, List.length_nil, forall_eq, exists_eq_left', Option.some.injEq, true_and, and_true, reduceIte, Nat.reduceEqDiff, Nat.reduceAdd, Nat.reduceLT, hup_hup, hup_at, eq_self, if_true, if_false, implies_true, true_implies, false_implies, not_true_eq_false, not_false_eq_true, or_true, true_or, i32_10, i32_01, kI_new, kB_new, kJ_new, kI_new2, kB_new2, kJ_new2, kQ_new, kO_new, zkd, zijd, zip1, zip, zim1, i32_natN, ziL, zi_0, zi_1, kO_fI o5, kO_fJ o5, kO_fR o5, kO_fN o5, kO_oI o5, kO_oJ o5, kO_oR o5, kO_oN o5, kO_oC o5, kO_oP o5, kO_pF o5, kO_fI oT, kO_fJ oT, kO_fR oT, kO_fN oT, kO_oI oT, kO_oJ oT, kO_oR oT, kO_oN oT, kO_oC oT, kO_oP oT, kO_pF oT, d1]
      refine ⟨by omega, by omega, ?_⟩
      intro q hq
      have n5q : g k ≠ q := kne o5 hq
      try simp (disch := first | assumption | omega) only [zl32, zl64, i32_add, i32_sub, i32_mul, i32_neg, i64_add, i64_sub, i64_mul, i64_neg, cv_gi, cv_gw, cv_ga, cv_gl, cv_pi, cv_pw, cv_pa, cv_pl, zf_S, zf_i, zf_l, mz1, mz2, mz3, mz4, kn_haI, kn_haJ, kn_haQ, kn_gaI, kn_gaJ, kn_gaQ, kn_hoA, kn_hlen, kn_hfI, kn_hfJ, kn_hfR, kn_hfN, kn_hoI, kn_hoJ, kn_hoR, kn_hoN, kn_hoC, kn_hoP, kn_paI, kn_paJ, kn_paQ, kn_hpF, kuI_ha, kuI_ga, kuI_pa, kuI_hA, kuI_ln, kuB_ha, kuB_ga, kuB_pa, kuB_hA, kuB_ln, kuJ_ha, kuJ_ga, kuJ_pa, kuJ_hA, kuJ_ln, kuQ_ha, kuQ_ga, kuQ_pa, kuQ_hA, kuQ_ln, kuO_fI, kuO_fJ, kuO_fR, kuO_fN, kuO_oI, kuO_oJ, kuO_oR, kuO_oN, kuO_oC, kuO_oP, kuO_pF, kvI_s, kvJ_s, kvR_s, kvN_s, kvN_0, kvN_v, kpI_s, kpJ_s, kpR_s, kpN_s, kpN_0, kpN_v, List.getElem?_cons_zero, List.getElem?_cons_succ, List.set_cons_zero, List.set_cons_succ, List.length_cons, List.length_nil, forall_eq, exists_eq_left', Option.some.injEq, true_and, and_true, reduceIte, Nat.reduceEqDiff, Nat.reduceAdd, Nat.reduceLT, hup_hup, hup_at, eq_self, if_true, if_false, implies_true, true_implies, false_implies, not_true_eq_false, not_false_eq_true, or_true, true_or, i32_10, i32_01, kI_new, kB_new, kJ_new, kI_new2, kB_new2, kJ_new2, kQ_new, kO_new, zkd, zijd, zip1, zip, zim1, i32_natN, ziL, zi_0, zi_1, kO_fI o5, kO_fJ o5, kO_fR o5, kO_fN o5, kO_oI o5, kO_oJ o5, kO_oR o5, kO_oN o5, kO_oC o5, kO_oP o5, kO_pF o5]
      refine kC_ini8 (hup_at _ _ _) (Or.inl rfl) _ _ _ _ ?_
      rw [hup_hup]
      refine addL q (0, ((zpD pa (zpL pa) * zrm (zpts M p pa f m) x.1 x.2 : Nat) : Int), (y.1 : Int), ((zpD pa (zpL pa) * zrm (zpts M p pa f m) x.1 x.2 : Nat) : Int) * y.1, (zpA pa (zpL pa) : Int)) _ _ _ hq ?_ rfl ?_ (by omega) (by omega)
      · unfold kLc
        rw [if_pos rfl, kmk_s (n := zpA pa (zpL pa)) rfl, hmkr]
      · unfold zch
        rw [if_pos c1]
        rfl
    · have d1 : ¬ i32 (y.2.1 : Int) = i32 1 := fun e => by rw [i32_eq (by omega) (by omega) (by omega) (by omega)] at e; omega
      by_cases c2 : 1 < y.1
      · have d2 : ¬ i32 (y.1 : Int) ≤ i32 1 := fun e => by rw [i32_le (by omega) (by omega) (by omega) (by omega)] at e; omega
        try simp (disch := first | assumption | omega) only [zl32, zl64, i32_add, i32_sub, i32_mul, i32_neg, i64_add, i64_sub, i64_mul, i64_neg, cv_gi, cv_gw, cv_ga, cv_gl, cv_pi, cv_pw, cv_pa, cv_pl, zf_S, zf_i, zf_l, mz1, mz2, mz3, mz4, kn_haI, kn_haJ, kn_haQ, kn_gaI, kn_gaJ, kn_gaQ, kn_hoA, kn_hlen, kn_hfI, kn_hfJ, kn_hfR, kn_hfN, kn_hoI, kn_hoJ, kn_hoR, kn_hoN, kn_hoC, kn_hoP, kn_paI, kn_paJ, kn_paQ, kn_hpF, kuI_ha, kuI_ga, kuI_pa, kuI_hA, kuI_ln, kuB_ha, kuB_ga, kuB_pa, kuB_hA, kuB_ln, kuJ_ha, kuJ_ga, kuJ_pa, kuJ_hA, kuJ_ln, kuQ_ha, kuQ_ga, kuQ_pa, kuQ_hA, kuQ_ln, kuO_fI, kuO_fJ, kuO_fR, kuO_fN, kuO_oI, kuO_oJ, kuO_oR, kuO_oN, kuO_oC, kuO_oP, kuO_pF, kvI_s, kvJ_s, kvR_s, kvN_s, kvN_0, kvN_v, kpI_s, kpJ_s, kpR_s, kpN_s, kpN_0, kpN_v, List.getElem?_cons_zero, List.getElem?_cons_succ, List.set_cons_zero, List.set_cons_succ, List.length_cons, List.length_nil, forall_eq, exists_eq_left', Option.some.injEq, true_and, and_true, reduceIte, Nat.reduceEqDiff, Nat.reduceAdd, Nat.reduceLT, hup_hup, hup_at, eq_self, if_true, if_false, implies_true, true_implies, false_implies, not_true_eq_false, not_false_eq_true, or_true, true_or, i32_10, i32_01, kI_new, kB_new, kJ_new, kI_new2, kB_new2, kJ_new2, kQ_new, kO_new, zkd, zijd, zip1, zip, zim1, i32_natN, ziL, zi_0, zi_1, kO_fI o5, kO_fJ o5, kO_fR o5, kO_fN o5, kO_oI o5, kO_oJ o5, kO_oR o5, kO_oN o5, kO_oC o5, kO_oP o5, kO_pF o5, kO_fI oT, kO_fJ oT, kO_fR oT, kO_fN oT, kO_oI oT, kO_oJ oT, kO_oR oT, kO_oN oT, kO_oC oT, kO_oP oT, kO_pF oT, d1, d2]
        refine ⟨by omega, by omega, ?_⟩
        intro q hq
        have n5q : g k ≠ q := kne o5 hq
        try simp (disch := first | assumption | omega) only [zl32, zl64, i32_add, i32_sub, i32_mul, i32_neg, i64_add, i64_sub, i64_mul, i64_neg, cv_gi, cv_gw, cv_ga, cv_gl, cv_pi, cv_pw, cv_pa, cv_pl, zf_S, zf_i, zf_l, mz1, mz2, mz3, mz4, kn_haI, kn_haJ, kn_haQ, kn_gaI, kn_gaJ, kn_gaQ, kn_hoA, kn_hlen, kn_hfI, kn_hfJ, kn_hfR, kn_hfN, kn_hoI, kn_hoJ, kn_hoR, kn_hoN, kn_hoC, kn_hoP, kn_paI, kn_paJ, kn_paQ, kn_hpF, kuI_ha, kuI_ga, kuI_pa, kuI_hA, kuI_ln, kuB_ha, kuB_ga, kuB_pa, kuB_hA, kuB_ln, kuJ_ha, kuJ_ga, kuJ_pa, kuJ_hA, kuJ_ln, kuQ_ha, kuQ_ga, kuQ_pa, kuQ_hA, kuQ_ln, kuO_fI, kuO_fJ, kuO_fR, kuO_fN, kuO_oI, kuO_oJ, kuO_oR, kuO_oN, kuO_oC, kuO_oP, kuO_pF, kvI_s, kvJ_s, kvR_s, kvN_s, kvN_0, kvN_v, kpI_s, kpJ_s, kpR_s, kpN_s, kpN_0, kpN_v, List.getElem?_cons_zero, List.getElem?_cons_succ, List.set_cons_zero, List.set_cons_succ, List.length_cons, List.length_nil, forall_eq, exists_eq_left', Option.some.injEq, true_and, and_true, reduceIte, Nat.reduceEqDiff, Nat.reduceAdd, Nat.reduceLT, hup_hup, hup_at, eq_self, if_true, if_false, implies_true, true_implies, false_implies, not_true_eq_false, not_false_eq_true, or_true, true_or, i32_10, i32_01, kI_new, kB_new, kJ_new, kI_new2, kB_new2, kJ_new2, kQ_new, kO_new, zkd, zijd, zip1, zip, zim1, i32_natN, ziL, zi_0, zi_1, kO_fI o5, kO_fJ o5, kO_fR o5, kO_fN o5, kO_oI o5, kO_oJ o5, kO_oR o5, kO_oN o5, kO_oC o5, kO_oP o5, kO_pF o5]
        refine kC_ini11 (hup_at _ _ _) (Or.inl rfl) _ _ _ ?_
        rw [hup_hup]
        refine addL q (2, 0, 0, (y.1 : Int) * y.2.1 * ((zpD pa (zpL pa) * zrm (zpts M p pa f m) x.1 x.2 : Nat) : Int), (zpA pa (zpL pa) : Int)) _ _ _ hq ?_ rfl ?_ (by omega) (by omega)
        · unfold kLc
          rw [if_neg (show ¬ (2 : Int) = 0 by decide), if_neg (show ¬ (2 : Int) = 1 by decide), if_pos rfl, kmk_s (n := zpA pa (zpL pa)) rfl, hmkr]
        · unfold zch
          rw [if_neg c1, if_pos c2]
          rfl
      · have d2 : i32 (y.1 : Int) ≤ i32 1 := (i32_le (by omega) (by omega) (by omega) (by omega)).mpr (by omega)
        by_cases c3 : zpL pa = 6
        · have d3 : i32 (zpL pa : Int) = i32 6 := by rw [c3]; rfl
          try simp (disch := first | assumption | omega) only [zl32, zl64, i32_add, i32_sub, i32_mul, i32_neg, i64_add, i64_sub, i64_mul, i64_neg, cv_gi, cv_gw, cv_ga, cv_gl, cv_pi, cv_pw, cv_pa, cv_pl, zf_S, zf_i, zf_l, mz1, mz2, mz3, mz4, kn_haI, kn_haJ, kn_haQ, kn_gaI, kn_gaJ, kn_gaQ, kn_hoA, kn_hlen, kn_hfI, kn_hfJ, kn_hfR, kn_hfN, kn_hoI, kn_hoJ, kn_hoR, kn_hoN, kn_hoC, kn_hoP, kn_paI, kn_paJ, kn_paQ, kn_hpF, kuI_ha, kuI_ga, kuI_pa, kuI_hA, kuI_ln, kuB_ha, kuB_ga, kuB_pa, kuB_hA, kuB_ln, kuJ_ha, kuJ_ga, kuJ_pa, kuJ_hA, kuJ_ln, kuQ_ha, kuQ_ga, kuQ_pa, kuQ_hA, kuQ_ln, kuO_fI, kuO_fJ, kuO_fR, kuO_fN, kuO_oI, kuO_oJ, kuO_oR, kuO_oN, kuO_oC, kuO_oP, kuO_pF, kvI_s, kvJ_s, kvR_s, kvN_s, kvN_0, kvN_v, kpI_s, kpJ_s, kpR_s, kpN_s, kpN_0, kpN_v, List.getElem?_cons_zero, List.getElem?_cons_succ, List.set_cons_zero, List.set_cons_succ, List.length_cons, List.length_nil, forall_eq, exists_eq_left', Option.some.injEq, true_and, and_true, reduceIte, Nat.reduceEqDiff, Nat.reduceAdd, Nat.reduceLT, hup_hup, hup_at, eq_self, if_true, if_false, implies_true, true_implies, false_implies, not_true_eq_false, not_false_eq_true, or_true, true_or, i32_10, i32_01, kI_new, kB_new, kJ_new, kI_new2, kB_new2, kJ_new2, kQ_new, kO_new, zkd, zijd, zip1, zip, zim1, i32_natN, ziL, zi_0, zi_1, kO_fI o5, kO_fJ o5, kO_fR o5, kO_fN o5, kO_oI o5, kO_oJ o5, kO_oR o5, kO_oN o5, kO_oC o5, kO_oP o5, kO_pF o5, kO_fI oT, kO_fJ oT, kO_fR oT, kO_fN oT, kO_oI oT, kO_oJ oT, kO_oR oT, kO_oN oT, kO_oC oT, kO_oP oT, kO_pF oT, kO_fI o1, kO_fJ o1, kO_fR o1, kO_fN o1, kO_oI o1, kO_oJ o1, kO_oR o1, kO_oN o1, kO_oC o1, kO_oP o1, kO_pF o1, d1, d2, d3]
          refine ⟨by omega, by omega, ?_⟩
          intro q hq
          have n5q : g k ≠ q := kne o5 hq
          try simp (disch := first | assumption | omega) only [zl32, zl64, i32_add, i32_sub, i32_mul, i32_neg, i64_add, i64_sub, i64_mul, i64_neg, cv_gi, cv_gw, cv_ga, cv_gl, cv_pi, cv_pw, cv_pa, cv_pl, zf_S, zf_i, zf_l, mz1, mz2, mz3, mz4, kn_haI, kn_haJ, kn_haQ, kn_gaI, kn_gaJ, kn_gaQ, kn_hoA, kn_hlen, kn_hfI, kn_hfJ, kn_hfR, kn_hfN, kn_hoI, kn_hoJ, kn_hoR, kn_hoN, kn_hoC, kn_hoP, kn_paI, kn_paJ, kn_paQ, kn_hpF, kuI_ha, kuI_ga, kuI_pa, kuI_hA, kuI_ln, kuB_ha, kuB_ga, kuB_pa, kuB_hA, kuB_ln, kuJ_ha, kuJ_ga, kuJ_pa, kuJ_hA, kuJ_ln, kuQ_ha, kuQ_ga, kuQ_pa, kuQ_hA, kuQ_ln, kuO_fI, kuO_fJ, kuO_fR, kuO_fN, kuO_oI, kuO_oJ, kuO_oR, kuO_oN, kuO_oC, kuO_oP, kuO_pF, kvI_s, kvJ_s, kvR_s, kvN_s, kvN_0, kvN_v, kpI_s, kpJ_s, kpR_s, kpN_s, kpN_0, kpN_v, List.getElem?_cons_zero, List.getElem?_cons_succ, List.set_cons_zero, List.set_cons_succ, List.length_cons, List.length_nil, forall_eq, exists_eq_left', Option.some.injEq, true_and, and_true, reduceIte, Nat.reduceEqDiff, Nat.reduceAdd, Nat.reduceLT, hup_hup, hup_at, eq_self, if_true, if_false, implies_true, true_implies, false_implies, not_true_eq_false, not_false_eq_true, or_true, true_or, i32_10, i32_01, kI_new, kB_new, kJ_new, kI_new2, kB_new2, kJ_new2, kQ_new, kO_new, zkd, zijd, zip1, zip, zim1, i32_natN, ziL, zi_0, zi_1, kO_fI o5, kO_fJ o5, kO_fR o5, kO_fN o5, kO_oI o5, kO_oJ o5, kO_oR o5, kO_oN o5, kO_oC o5, kO_oP o5, kO_pF o5]
          refine kC_ini12 (hup_at _ _ _) (Or.inr (Or.inl rfl)) _ _ _ ?_
          rw [hup_hup]
          refine addL q (3, 0, 0, (y.2.1 : Int) * ((zpD pa (zpL pa) * zrm (zpts M p pa f m) x.1 x.2 : Nat) : Int), (zpA pa (zpL pa) : Int)) _ _ _ hq ?_ rfl ?_ (by omega) (by omega)
          · unfold kLc
            rw [if_neg (show ¬ (3 : Int) = 0 by decide), if_neg (show ¬ (3 : Int) = 1 by decide), if_neg (show ¬ (3 : Int) = 2 by decide), if_pos rfl, kmk_s (n := zpA pa (zpL pa)) rfl, hmkr]
          · unfold zch
            rw [if_neg c1, if_neg c2, if_pos c3]
            rfl
        · have d3 : ¬ i32 (zpL pa : Int) = i32 6 := fun e => by rw [i32_eq (by omega) (by omega) (by omega) (by omega)] at e; omega
          try simp (disch := first | assumption | omega) only [zl32, zl64, i32_add, i32_sub, i32_mul, i32_neg, i64_add, i64_sub, i64_mul, i64_neg, cv_gi, cv_gw, cv_ga, cv_gl, cv_pi, cv_pw, cv_pa, cv_pl, zf_S, zf_i, zf_l, mz1, mz2, mz3, mz4, kn_haI, kn_haJ, kn_haQ, kn_gaI, kn_gaJ, kn_gaQ, kn_hoA, kn_hlen, kn_hfI, kn_hfJ, kn_hfR, kn_hfN, kn_hoI, kn_hoJ, kn_hoR, kn_hoN, kn_hoC, kn_hoP, kn_paI, kn_paJ, kn_paQ, kn_hpF, kuI_ha, kuI_ga, kuI_pa, kuI_hA, kuI_ln, kuB_ha, kuB_ga, kuB_pa, kuB_hA, kuB_ln, kuJ_ha, kuJ_ga, kuJ_pa, kuJ_hA, kuJ_ln, kuQ_ha, kuQ_ga, kuQ_pa, kuQ_hA, kuQ_ln, kuO_fI, kuO_fJ, kuO_fR, kuO_fN, kuO_oI, kuO_oJ, kuO_oR, kuO_oN, kuO_oC, kuO_oP, kuO_pF, kvI_s, kvJ_s, kvR_s, kvN_s, kvN_0, kvN_v, kpI_s, kpJ_s, kpR_s, kpN_s, kpN_0, kpN_v, List.getElem?_cons_zero, List.getElem?_cons_succ, List.set_cons_zero, List.set_cons_succ, List.length_cons, List.length_nil, forall_eq, exists_eq_left', Option.some.injEq, true_and, and_true, reduceIte, Nat.reduceEqDiff, Nat.reduceAdd, Nat.reduceLT, hup_hup, hup_at, eq_self, if_true, if_false, implies_true, true_implies, false_implies, not_true_eq_false, not_false_eq_true, or_true, true_or, i32_10, i32_01, kI_new, kB_new, kJ_new, kI_new2, kB_new2, kJ_new2, kQ_new, kO_new, zkd, zijd, zip1, zip, zim1, i32_natN, ziL, zi_0, zi_1, kO_fI o5, kO_fJ o5, kO_fR o5, kO_fN o5, kO_oI o5, kO_oJ o5, kO_oR o5, kO_oN o5, kO_oC o5, kO_oP o5, kO_pF o5, kO_fI oT, kO_fJ oT, kO_fR oT, kO_fN oT, kO_oI oT, kO_oJ oT, kO_oR oT, kO_oN oT, kO_oC oT, kO_oP oT, kO_pF oT, kO_fI o1, kO_fJ o1, kO_fR o1, kO_fN o1, kO_oI o1, kO_oJ o1, kO_oR o1, kO_oN o1, kO_oC o1, kO_oP o1, kO_pF o1, d1, d2, d3]
          refine ⟨by omega, by omega, ?_⟩
          intro q hq
          have hy11 : y.1 = 1 := by omega
          have n5q : g k ≠ q := kne o5 hq
          have nTq : h 0 ≠ q := kne oT hq
          have o0 := ht'.1.1
          have n0q : A 0 ≠ q := kne o0 hq
          have naq : aa ≠ q := kne ia5 hq
          have hy0 := hyr 0 (by omega)
          have cp : ¬ i32 p = i32 0 := fun e => by rw [i32_eq (by omega) (by omega) (by omega) (by omega)] at e; omega
          have edv : i32 (p - y.2.2 0) / i32 p = i32 ((p - y.2.2 0) / p) := by
            rw [i32_div (by omega) (by omega) (by omega) (by omega), ze_tdivn (by omega)]
          have er : p - y.2.2 0 - (p - y.2.2 0) / p * p = zroot p y := ze_emodn _ _
          try simp (disch := first | assumption | omega) only [zl32, zl64, i32_add, i32_sub, i32_mul, i32_neg, i64_add, i64_sub, i64_mul, i64_neg, cv_gi, cv_gw, cv_ga, cv_gl, cv_pi, cv_pw, cv_pa, cv_pl, zf_S, zf_i, zf_l, mz1, mz2, mz3, mz4, kn_haI, kn_haJ, kn_haQ, kn_gaI, kn_gaJ, kn_gaQ, kn_hoA, kn_hlen, kn_hfI, kn_hfJ, kn_hfR, kn_hfN, kn_hoI, kn_hoJ, kn_hoR, kn_hoN, kn_hoC, kn_hoP, kn_paI, kn_paJ, kn_paQ, kn_hpF, kuI_ha, kuI_ga, kuI_pa, kuI_hA, kuI_ln, kuB_ha, kuB_ga, kuB_pa, kuB_hA, kuB_ln, kuJ_ha, kuJ_ga, kuJ_pa, kuJ_hA, kuJ_ln, kuQ_ha, kuQ_ga, kuQ_pa, kuQ_hA, kuQ_ln, kuO_fI, kuO_fJ, kuO_fR, kuO_fN, kuO_oI, kuO_oJ, kuO_oR, kuO_oN, kuO_oC, kuO_oP, kuO_pF, kvI_s, kvJ_s, kvR_s, kvN_s, kvN_0, kvN_v, kpI_s, kpJ_s, kpR_s, kpN_s, kpN_0, kpN_v, List.getElem?_cons_zero, List.getElem?_cons_succ, List.set_cons_zero, List.set_cons_succ, List.length_cons, List.length_nil, forall_eq, exists_eq_left', Option.some.injEq, true_and, and_true, reduceIte, Nat.reduceEqDiff, Nat.reduceAdd, Nat.reduceLT, hup_hup, hup_at, eq_self, if_true, if_false, implies_true, true_implies, false_implies, not_true_eq_false, not_false_eq_true, or_true, true_or, i32_10, i32_01, kI_new, kB_new, kJ_new, kI_new2, kB_new2, kJ_new2, kQ_new, kO_new, zkd, zijd, zip1, zip, zim1, i32_natN, ziL, zi_0, zi_1, kO_fI o5, kO_fJ o5, kO_fR o5, kO_fN o5, kO_oI o5, kO_oJ o5, kO_oR o5, kO_oN o5, kO_oC o5, kO_oP o5, kO_pF o5, kO_fI oT, kO_fJ oT, kO_fR oT, kO_fN oT, kO_oI oT, kO_oJ oT, kO_oR oT, kO_oN oT, kO_oC oT, kO_oP oT, kO_pF oT, kI_ha ia5, kI_ga ia5, kI_pa ia5, kI_hA ia5, kI_ln ia5, kO_fI o0, kO_fJ o0, kO_fR o0, kO_fN o0, kO_oI o0, kO_oJ o0, kO_oR o0, kO_oN o0, kO_oC o0, kO_oP o0, kO_pF o0, cp, edv, er]
          repeat' (first | (exfalso; omega) | (with_reducible refine zb_in ?_ ?_ ?_ ?_; omega; omega; omega) | (with_reducible refine zb_le ?_ ?_ ?_ ?_ (fun _ => ?_) (fun _ => ?_); omega; omega; omega; omega) | (with_reducible refine zb_lt ?_ ?_ ?_ ?_ (fun _ => ?_) (fun _ => ?_); omega; omega; omega; omega) | (with_reducible refine zb_eq ?_ ?_ ?_ ?_ (fun _ => ?_) (fun _ => ?_); omega; omega; omega; omega) | (with_reducible refine zb_leL ?_ ?_ ?_ ?_ (fun _ => ?_) (fun _ => ?_); omega; omega; omega; omega) | (with_reducible refine zb_ltL ?_ ?_ ?_ ?_ (fun _ => ?_) (fun _ => ?_); omega; omega; omega; omega) | (with_reducible refine zb_eqL ?_ ?_ ?_ ?_ (fun _ => ?_) (fun _ => ?_); omega; omega; omega; omega) | (with_reducible refine zb_nz ?_ ?_ ?_ ?_; omega; omega; omega) | (with_reducible refine zb_nzL ?_ ?_ ?_ ?_; omega; omega; omega) | with_reducible refine zb_ite ?_ | with_reducible refine zb_iteL ?_ | ((with_reducible intro y hy); subst hy; try simp only [zl32, zl64, i32_add, i32_sub, i32_mul, i32_neg, i64_add, i64_sub, i64_mul, i64_neg, cv_gi, cv_gw, cv_ga, cv_gl, cv_pi, cv_pw, cv_pa, cv_pl, zf_S, zf_i, zf_l, mz1, mz2, mz3, mz4, zr_ii, zr_iw, zr_ia, zr_il, zr_wi, zr_ww, zr_wa, zr_wl, zr_ai, zr_aw, zr_aa, zr_al, zr_li, zr_lw, zr_la, zr_ll, zw_ii, zw_ww, zw_aa, zw_ll, reduceIte, Nat.reduceEqDiff, if_true, if_false]) | with_reducible refine zb_o1 ?_ | with_reducible refine zb_o2 ?_ | with_reducible refine zb_o3 ?_ | with_reducible refine zb_o4 ?_ | with_reducible refine zb_tr ?_ | exact trivial | with_reducible refine zb_T ?_ | with_reducible refine zb_sp ?_ ?_)
          all_goals (try exact i32_in (by omega) (by omega) (by omega))
          have hF1 : kF kN S' (hup S' q kK0) := kF.new hq
          have ht1 := ht'.ext hh hA0 hA1 hF1
          have hG1 : kG (kMu Kc A h E1b E2b) (kMu Kc A h E1 E2) Sb (hup S' q kK0) := hG'.trans (hF1.G (fun _ h => h.elim))
          have oq1 : (hup S' q kK0) q = some kK0 := hup_at _ _ _
          have hsl := zsl_u hv hg.2.2 x1 x3 x4
          have hDD : (zpD pa (zpL pa) : Int) * zpD pa (zpL pa) ≤ 16 := by
            have := Int.mul_le_mul (a := (zpD pa (zpL pa) : Int)) (b := (zpD pa (zpL pa) : Int)) (c := 4) (d := 4) (by omega) (by omega) (by omega) (by omega)
            omega
          have hvn := zvn_bd hv hg.2.1 (v := zsl pa (zpts M p pa f m) x.1 x.2) (by omega) (by omega) (zpL pa - 1) (by omega)
          have hvm0 : zvm pa (zsl pa (zpts M p pa f m) x.1 x.2) 0 = zvn pa (zsl pa (zpts M p pa f m) x.1 x.2) (zpL pa - 1) := by
            unfold zvm
            rw [if_pos rfl]
          have hrm8 : zrm (zpts M p pa f m) x.1 x.2 ≤ 8 := by
            have : zrm (zpts M p pa f m) x.1 x.2 ≤ zrm (zpts M p pa f m) x.1 x.2 * zpD pa (zpL pa) := Nat.le_mul_of_pos_right _ hD.1
            omega
          have hlen24 : Tt.1.length ≤ 24 := by have := hcap.1; omega
          generalize hup S' q kK0 = S1 at hF1 ht1 hG1 oq1 ⊢
          obtain ⟨hd1, hv1, oT1⟩ := ht1.2.1
          have hvl : ((zpL pa - 1 : Nat) : Int) ≤ 5 := by omega
          refine ⟨30, 270, by omega, by omega, ?_⟩
          refine kC_nextKey ht1.1.1 hp hMp hM hM2 oT1 (hWb.G hG1) hv (hG1 _ _ obb).1 (hG1 _ _ omb).1 (hG1 _ _ imb).1 (by rw [hvm0]; omega) (fun q' hq' => zvm_bd hv hg.2.1 _ q' hq') hrm8 (zroot p y) (by omega) hr2 30 270 (by omega) (by omega) _ (fun S2 r hr hF2 jr => ?_)
          have ht2 := ht1.ext hh hA0 hA1 hF2
          have hG2 : kG (kMu Kc A h E1b E2b) (kMu Kc A h E1 E2) Sb S2 := hG1.trans (hF2.G (fun _ h => h.elim))
          have o52 := (hG2 _ _ of).1
          obtain ⟨hd2, hv2, oT2⟩ := ht2.2.1
          obtain ⟨cL, ⟨⟨vL, oL1⟩, _⟩, _⟩ := ht2.2.2.2.2.1
          have oq2 := hF2 _ _ oq1 (fun h => h)
          have o12 := (hG2 _ _ oob).1
          have ob2 := (hG2 _ _ obb).1
          try simp (disch := first | assumption | omega) only [zl32, zl64, i32_add, i32_sub, i32_mul, i32_neg, i64_add, i64_sub, i64_mul, i64_neg, cv_gi, cv_gw, cv_ga, cv_gl, cv_pi, cv_pw, cv_pa, cv_pl, zf_S, zf_i, zf_l, mz1, mz2, mz3, mz4, kn_haI, kn_haJ, kn_haQ, kn_gaI, kn_gaJ, kn_gaQ, kn_hoA, kn_hlen, kn_hfI, kn_hfJ, kn_hfR, kn_hfN, kn_hoI, kn_hoJ, kn_hoR, kn_hoN, kn_hoC, kn_hoP, kn_paI, kn_paJ, kn_paQ, kn_hpF, kuI_ha, kuI_ga, kuI_pa, kuI_hA, kuI_ln, kuB_ha, kuB_ga, kuB_pa, kuB_hA, kuB_ln, kuJ_ha, kuJ_ga, kuJ_pa, kuJ_hA, kuJ_ln, kuQ_ha, kuQ_ga, kuQ_pa, kuQ_hA, kuQ_ln, kuO_fI, kuO_fJ, kuO_fR, kuO_fN, kuO_oI, kuO_oJ, kuO_oR, kuO_oN, kuO_oC, kuO_oP, kuO_pF, kvI_s, kvJ_s, kvR_s, kvN_s, kvN_0, kvN_v, kpI_s, kpJ_s, kpR_s, kpN_s, kpN_0, kpN_v, List.getElem?_cons_zero, List.getElem?_cons_succ, List.set_cons_zero, List.set_cons_succ, List.length_cons, List.length_nil, forall_eq, exists_eq_left', Option.some.injEq, true_and, and_true, reduceIte, Nat.reduceEqDiff, Nat.reduceAdd, Nat.reduceLT, hup_hup, hup_at, eq_self, if_true, if_false, implies_true, true_implies, false_implies, not_true_eq_false, not_false_eq_true, or_true, true_or, i32_10, i32_01, kI_new, kB_new, kJ_new, kI_new2, kB_new2, kJ_new2, kQ_new, kO_new, zkd, zijd, zip1, zip, zim1, i32_natN, ziL, zi_0, zi_1, kO_fI o52, kO_fJ o52, kO_fR o52, kO_fN o52, kO_oI o52, kO_oJ o52, kO_oR o52, kO_oN o52, kO_oC o52, kO_oP o52, kO_pF o52, kO_fI oT2, kO_fJ oT2, kO_fR oT2, kO_fN oT2, kO_oI oT2, kO_oJ oT2, kO_oR oT2, kO_oN oT2, kO_oC oT2, kO_oP oT2, kO_pF oT2, kO_fI oL1, kO_fJ oL1, kO_fR oL1, kO_fN oL1, kO_oI oL1, kO_oJ oL1, kO_oR oL1, kO_oN oL1, kO_oC oL1, kO_oP oL1, kO_pF oL1]
          refine kC_size oL1 _ ?_
          refine ⟨2, 12, by omega, by omega, ?_⟩
          have nLq : w (zpL pa) ≠ q := kne o1 hq
          refine kC_knotInit oq2 (some (w (zpL pa))) (some by_) (zroot p y) (y.2.1 : Int) (Tt.1.length : Int) r ((zpL pa : Int) + 1) ((zpD pa (zpL pa) : Int) * (zrm (zpts M p pa f m) x.1 x.2 : Int)) (zsl pa (zpts M p pa f m) x.1 x.2 * (zrm (zpts M p pa f m) x.1 x.2 : Int)) (Or.inr ⟨_, _, _, _, _, _, _, _, _, _, _, _, _, _, _, _, _, _, _, _, _, _, _, rfl, rfl, o12, ob2, rfl, rfl, rfl, nLq⟩) 2 12 (by omega) (by omega) _ (fun S3 pt3 sl3 hpt hsl3 hF3 oq3 ip3 os3 => ?_)
          have hF13 : kF kN S' S3 := fun q' z hz _ => hF3 _ _ (hF2 _ _ (hF1 _ _ hz (fun h => h)) (fun h => h)) (kne hz hq)
          have ht3 := ht'.ext hh hA0 hA1 hF13
          have hGs : kG (kMu Kc A h E1 E2) (kMu Kc A h E1 E2) S' S3 := hF13.G (fun _ h => h.elim)
          have hG3 : kG (kMu Kc A h E1b E2b) (kMu Kc A h E1 E2) Sb S3 := hG'.trans hGs
          have hn2 : ∀ z, S2 z = none → S' z = none := by
            intro z hz
            rcases hzz : S' z with _ | yy
            · rfl
            · rw [hF2 _ _ (hF1 _ _ hzz (fun h => h)) (fun h => h)] at hz; cases hz
          have hn1 : ∀ z, S1 z = none → S' z = none := by
            intro z hz
            rcases hzz : S' z with _ | yy
            · rfl
            · rw [hF1 _ _ hzz (fun h => h)] at hz; cases hz
          have mq := kMu.new ht' hq
          have mpt := kMu.new ht' (hn2 _ hpt)
          have msl := kMu.new ht' (hn2 _ hsl3)
          have mr := kMu.new ht' (hn1 _ hr)
          have jr3 : S3 r = some (kJ 9 (znk M p pa (zrm (zpts M p pa f m) x.1 x.2) (zvm pa (zsl pa (zpts M p pa f m) x.1 x.2)) (zroot p y))) := hF3 _ _ jr (kne2 jr oq2 (by intro e; cases e))
          obtain ⟨hd3, hv3, oT3⟩ := ht3.2.1
          have hWc := (hWb.G hG3).ext hL1 (n := Tt.1.length) (root := zroot p y) ⟨oq3, mq⟩ ⟨jr3, mr⟩ (hG3 _ _ obb) (hG3 _ _ omb) (hG3 _ _ imb)
          try simp (disch := first | assumption | omega) only [zl32, zl64, i32_add, i32_sub, i32_mul, i32_neg, i64_add, i64_sub, i64_mul, i64_neg, cv_gi, cv_gw, cv_ga, cv_gl, cv_pi, cv_pw, cv_pa, cv_pl, zf_S, zf_i, zf_l, mz1, mz2, mz3, mz4, kn_haI, kn_haJ, kn_haQ, kn_gaI, kn_gaJ, kn_gaQ, kn_hoA, kn_hlen, kn_hfI, kn_hfJ, kn_hfR, kn_hfN, kn_hoI, kn_hoJ, kn_hoR, kn_hoN, kn_hoC, kn_hoP, kn_paI, kn_paJ, kn_paQ, kn_hpF, kuI_ha, kuI_ga, kuI_pa, kuI_hA, kuI_ln, kuB_ha, kuB_ga, kuB_pa, kuB_hA, kuB_ln, kuJ_ha, kuJ_ga, kuJ_pa, kuJ_hA, kuJ_ln, kuQ_ha, kuQ_ga, kuQ_pa, kuQ_hA, kuQ_ln, kuO_fI, kuO_fJ, kuO_fR, kuO_fN, kuO_oI, kuO_oJ, kuO_oR, kuO_oN, kuO_oC, kuO_oP, kuO_pF, kvI_s, kvJ_s, kvR_s, kvN_s, kvN_0, kvN_v, kpI_s, kpJ_s, kpR_s, kpN_s, kpN_0, kpN_v, List.getElem?_cons_zero, List.getElem?_cons_succ, List.set_cons_zero, List.set_cons_succ, List.length_cons, List.length_nil, forall_eq, exists_eq_left', Option.some.injEq, true_and, and_true, reduceIte, Nat.reduceEqDiff, Nat.reduceAdd, Nat.reduceLT, hup_hup, hup_at, eq_self, if_true, if_false, implies_true, true_implies, false_implies, not_true_eq_false, not_false_eq_true, or_true, true_or, i32_10, i32_01, kI_new, kB_new, kJ_new, kI_new2, kB_new2, kJ_new2, kQ_new, kO_new, zkd, zijd, zip1, zip, zim1, i32_natN, ziL, zi_0, zi_1, kO_fI oT3, kO_fJ oT3, kO_fR oT3, kO_fN oT3, kO_oI oT3, kO_oJ oT3, kO_oR oT3, kO_oN oT3, kO_oC oT3, kO_oP oT3, kO_pF oT3]
          rw [hy11, Nat.one_mul] at hbc hbs hb1 hb2 hzy
          have hb := Nat.mul_add (y.2.1 * (zrm (zpts M p pa f m) x.1 x.2 * zpD pa (zpL pa))) 40 (300 * d)
          have hb' := Nat.mul_add (y.2.1 * (zrm (zpts M p pa f m) x.1 x.2 * zpD pa (zpL pa))) 340 (3000 * d)
          have hyb1 : 1 ≤ y.2.1 * (zrm (zpts M p pa f m) x.1 x.2 * zpD pa (zpL pa)) := Nat.mul_pos hy2 hrD
          have eDL : zpD (zext pa Tt.1.length (znk M p pa (zrm (zpts M p pa f m) x.1 x.2) (zvm pa (zsl pa (zpts M p pa f m) x.1 x.2)) (zroot p y)) (zrm (zpts M p pa f m) x.1 x.2) (zsl pa (zpts M p pa f m) x.1 x.2) (zroot p y) (zvm pa (zsl pa (zpts M p pa f m) x.1 x.2))) (zpL pa + 1) = zrm (zpts M p pa f m) x.1 x.2 * zpD pa (zpL pa) := by
            rw [zext_DL _ _ _ _ _ _ _ hL1, Nat.mul_comm]
          have hb3 : 300 * (y.2.1 * (zrm (zpts M p pa f m) x.1 x.2 * zpD pa (zpL pa))) * d = y.2.1 * (zrm (zpts M p pa f m) x.1 x.2 * zpD pa (zpL pa)) * (300 * d) := by
            rw [Nat.mul_comm 300, Nat.mul_assoc]
          have hb4 : 3000 * (y.2.1 * (zrm (zpts M p pa f m) x.1 x.2 * zpD pa (zpL pa))) * d = y.2.1 * (zrm (zpts M p pa f m) x.1 x.2 * zpD pa (zpL pa)) * (3000 * d) := by
            rw [Nat.mul_comm 3000, Nat.mul_assoc]
          refine ⟨300 * (y.2.1 * (zrm (zpts M p pa f m) x.1 x.2 * zpD pa (zpL pa))) * d, 3000 * (y.2.1 * (zrm (zpts M p pa f m) x.1 x.2 * zpD pa (zpL pa))) * d, by omega, by omega, ?_⟩
          have hcap1 : zCap M p f (y.2.1 * (zrm (zpts M p pa f m) x.1 x.2 * zpD pa (zpL pa))) d Tt := by
            have := hcap.mono (Nat.le_add_right (y.1 * y.2.1 * (zrm (zpts M p pa f m) x.1 x.2 * zpD pa (zpL pa))) _)
            rw [hy11, Nat.one_mul] at this
            exact this
          have hzch : zch (zGk M p f d) M p pa (zside M p pa f (zpts M p pa f m) x) Tt y = zGk M p f d (zext pa Tt.1.length (znk M p pa (zrm (zpts M p pa f m) x.1 x.2) (zvm pa (zsl pa (zpts M p pa f m) x.1 x.2)) (zroot p y)) (zrm (zpts M p pa f m) x.1 x.2) (zsl pa (zpts M p pa f m) x.1 x.2) (zroot p y) (zvm pa (zsl pa (zpts M p pa f m) x.1 x.2))) y.2.1 Tt := by
            unfold zch
            rw [if_neg c1, if_neg c2, if_neg c3]
            rfl
          obtain ⟨pa', epa⟩ : ∃ pa', pa' = (zext pa Tt.1.length (znk M p pa (zrm (zpts M p pa f m) x.1 x.2) (zvm pa (zsl pa (zpts M p pa f m) x.1 x.2)) (zroot p y)) (zrm (zpts M p pa f m) x.1 x.2) (zsl pa (zpts M p pa f m) x.1 x.2) (zroot p y) (zvm pa (zsl pa (zpts M p pa f m) x.1 x.2))) := ⟨_, rfl⟩
          obtain ⟨gd, hkm', eL, eD, hy8, hw2, eA, eA', elf⟩ := kchild hp hM hg hkm c3 hm8 hme ⟨x1, x2, x3, x4⟩ ⟨hr1, hr2⟩ hzy (by omega) Tt.1.length epa
          rw [← epa] at hzch hWc
          rw [hzch] at hR hcn
          have eq1 : kA' w (zpL pa + 1) q (zpL pa' ) = q := by rw [eL]; exact kA'_at _ _ _
          have hWy : kWy (kMu Kc A h E1 E2) S3 (kA' w (zpL pa + 1) q) (kA' sd (zpL pa) by_) pa' := hWc
          have eDn : zpD pa' (zpL pa') = zrm (zpts M p pa f m) x.1 x.2 * zpD pa (zpL pa) := by rw [eL, eD, Nat.mul_comm]
          have key := hself pa' y.2.1 Tt S3 kn lf E1 E2 (some (w (zpL pa))) (some by_) (zroot p y) r pt3 sl3 (i32 0) (kA' w (zpL pa + 1) q) (kA' sd (zpL pa) by_) (300 * (y.2.1 * (zrm (zpts M p pa f m) x.1 x.2 * zpD pa (zpL pa))) * d) (3000 * (y.2.1 * (zrm (zpts M p pa f m) x.1 x.2 * zpD pa (zpL pa))) * d)
          rw [eDn, eq1] at key
          have hpre := zGk_pre M p f d pa' y.2.1 Tt
          refine key _ gd hkm' (by rw [eL]; omega) (by omega) hy8 hw2 (by rw [eL]; exact eA) hcap1 ht3 hWy (fun k1 h1 h2 => ?_) ?_ ⟨ip3, mpt⟩ ⟨os3, msl⟩ (Nat.le_refl _) (Nat.le_refl _) (fun S4 kn4 lf4 E14 E24 ht4 hkn4 hrec4 hkeep => ?_)
          · rw [eL] at h2
            obtain ⟨a1, a2⟩ := hw0 k1 h1 (by omega)
            rw [kA'_ne _ (by omega), eA' k1 (by omega), a1, hkn _ a2]
            exact ⟨rfl, by omega⟩
          · have e1 : ((zpL pa' : Nat) : Int) = (zpL pa : Int) + 1 := by omega
            have e2 : ((zrm (zpts M p pa f m) x.1 x.2 * zpD pa (zpL pa) : Nat) : Int) = (zpD pa (zpL pa) : Int) * (zrm (zpts M p pa f m) x.1 x.2 : Int) := by rw [Int.natCast_mul, Int.mul_comm]
            have e3 : zlift pa' = zsl pa (zpts M p pa f m) x.1 x.2 * (zrm (zpts M p pa f m) x.1 x.2 : Int) := by rw [elf, Int.mul_comm]
            rw [e1, e2, e3]
            exact ⟨oq3, mq⟩
          · have hnp := hn2 _ hpt
            have hns := hn2 _ hsl3
            have hlen4 : Tt.1.length ≤ (zGk M p f d pa' y.2.1 Tt).1.length := hpre.len
            have kp : ∀ q' z, kc (kMu Kc A h E1 E2) S' q' z → kc (kMu Kc A h E14 E24) S4 q' z := fun q' z hz => hkeep q' z (kne hz.1 hq) (kne hz.1 hnp) (kne hz.1 hns) (hGs q' z hz)
            refine ih (k + 1) (by omega) S4 E14 E24 kn4 lf4 _ k _ _ ht4 (fun q' z hz => kp q' z (hG' q' z hz)) (kp _ _ ⟨oi', htn⟩).1 (fun i hi => (hkn4 i (by omega)).trans (hkn i hi)) (by omega) (fun i xx hi hxx => ?_) hcn (by omega) (by omega) hR
            by_cases ci : i < Tt.1.length
            · have hxi : Tt.1[i]? = some Tt.1[i] := List.getElem?_eq_getElem ci
              have := hpre i _ hxi
              rw [hxx] at this
              injection this with this
              rw [← this] at hxi
              exact hrec'.fr (kn' := kn4) (fun q' z _ _ hz => kp q' z hz) hkn4 i xx hi hxi
            · exact hrec4 i xx (by omega) hxx
