/-! CLASS 34: splits -/
set_option maxRecDepth 100000
theorem kWy.by_ {m m' : Nat → Prop} {S S1 : hH} {w sd : Nat → Nat} {pa : zP} (h : kWy m S w sd pa) {by_ : Nat} {fs : List Value} (ob : S by_ = some (kO 15 fs)) (hn : ∀ k, 1 ≤ k → k < zpL pa → sd k ≠ by_) (hg : ∀ q y, q ≠ by_ → kc m S q y → kc m' S1 q y) : kWy m' S1 w sd pa := by
  refine ⟨fun k h1 h2 => ?_, fun k h1 h2 => ?_⟩
  · obtain ⟨root, mf, nu, ka, wo, pt, sl, fi, ix, a, b, c⟩ := h.1 k h1 h2
    exact ⟨root, mf, nu, ka, wo, pt, sl, fi, ix, hg _ _ (kne2 a.1 ob (by intro e; cases e)) a, hg _ _ (kne2 b.1 ob (by intro e; cases e)) b, c⟩
  · obtain ⟨b, e, f, dg, mo, rs, t, r, a1, a2, a3⟩ := h.2 k h1 h2
    exact ⟨b, e, f, dg, mo, rs, t, r, hg _ _ (hn k h1 h2) a1, hg _ _ (kne2 a2.1 ob (by intro e; cases e)) a2, hg _ _ (kne2 a3.1 ob (by intro e; cases e)) a3⟩
theorem kTg.kc0 {Kc A h : Nat → Nat} {p M : Int} {tr : Option Nat} {dg : Int} {f : Nat → Int} {E1 E2 : Nat} {S : hH} {kn lf : Nat → Nat} {Tt : zT} (hA0 : ∀ k, k < 90 → Kc 0 ≠ A k) (ht : kTg Kc A h p M tr dg f E1 E2 S kn lf Tt) : ¬ kMu Kc A h E1 E2 (Kc 0) := by
  obtain ⟨hd, hv, oT⟩ := ht.2.1
  obtain ⟨fk, hk⟩ := ht.1.2.2
  obtain ⟨c1, ⟨⟨v1, L1⟩, _⟩, _⟩ := ht.2.2.2.2.1
  obtain ⟨c2, ⟨⟨v2, L2⟩, _⟩, _⟩ := ht.2.2.2.2.2.1
  rintro (⟨k, k1, k2, e⟩ | e | e | e | e | ⟨e, _⟩)
  · exact hA0 k (by omega) e
  · rw [e, oT] at hk; cases hk
  · rw [e, L1] at hk; cases hk
  · rw [e, L2] at hk; cases hk
  · rw [e, ht.2.2.1] at hk; cases hk
  · exact e rfl
theorem kC_splits {Kc A h : Nat → Nat} {La : Nat → Prop} (hA : kInj A La) (hh : kHs A h) (hA0 : ∀ k, k < 90 → Kc 0 ≠ A k) {p M : Int} {tr : Option Nat} {dg : Int} {f : Nat → Int} (hp : zpr p) (hMp : M = p ^ zlim p) (hM : 1 < M) (hM2 : M < 536870912) (hf9 : zred M 9 f) {d : Nat} {self : Nat → Nat → hH → Nat → Nat → (hH → Prop) → Prop} (hself : kGrow Kc A h p M tr dg f d self) {pa : zP} (hg : zGood M p pa) (hkm : zKm pa) (hLd : zpL pa + (d + 1) = 7) {m : Nat} (hm8 : m ≤ 8) (hme : m * zpD pa (zpL pa) ≤ 8) {x : Nat × Nat} (hx : zSf M p f pa m x) {w sd : Nat → Nat} {S : hH} {E1 E2 : Nat} {kn lf : Nat → Nat} {Tt : zT} (ht : kTg Kc A h p M tr dg f E1 E2 S kn lf Tt) (hW : kWy (kMu Kc A h E1 E2) S w sd pa) {ab bb : Option Nat} {rt fi ix : Int} {ka pt sl : Nat} (oo : kc (kMu Kc A h E1 E2) S (w (zpL pa)) (kKo ab bb rt (zpL pa) m (zpA pa (zpL pa)) ka (zpD pa (zpL pa)) (zlift pa) pt sl fi ix)) (ip : kc (kMu Kc A h E1 E2) S pt (kI 9 (zpts M p pa f m))) {by_ mo tm : Nat} (ob : kc (kMu Kc A h E1 E2) S by_ (kSo x.1 x.2 (zpts M p pa f m x.1 - zpts M p pa f m x.2) (zrm (zpts M p pa f m) x.1 x.2) (zgd (zpts M p pa f m) x.1 x.2) (zsl pa (zpts M p pa f m) x.1 x.2) (some mo) none)) (om : kc (kMu Kc A h E1 E2) S mo (kMo tm 1)) (im : kc (kMu Kc A h E1 E2) S tm (kI 7 (zvm pa (zsl pa (zpts M p pa f m) x.1 x.2)))) (hsd : ∀ k, 1 ≤ k → k < zpL pa → sd k ≠ by_) {hs : Nat} {fh : Nat → Option Nat} (qh : kc (kMu Kc A h E1 E2) S hs (kQ 4 9 fh)) (hheads : ∀ i, i ≤ 8 → 0 ≤ zpts M p pa f m i → ∃ h' t, fh i = some h' ∧ kc (kMu Kc A h E1 E2) S h' (kMo t (zhr M p pa (zprt M pa f i))) ∧ kc (kMu Kc A h E1 E2) S t (kI 7 (zhm M p pa (zprt M pa f i)))) {kn0 : Nat → Nat} {n0 : Nat} (hw0 : ∀ k, 1 ≤ k → k ≤ zpL pa → w k = kn0 (zpA pa k) ∧ zpA pa k < n0) (hkn : ∀ i, i < n0 → kn i = kn0 i) (hn0 : n0 ≤ Tt.1.length) (hrec : kKrs (kMu Kc A h E1 E2) S kn M p f n0 Tt.1) (hcap : zCap M p f (zgd (zpts M p pa f m) x.1 x.2 * (zrm (zpts M p pa f m) x.1 x.2 * zpD pa (zpL pa))) d Tt) (mc ms : Nat) (hmc : zgd (zpts M p pa f m) x.1 x.2 * (zrm (zpts M p pa f m) x.1 x.2 * zpD pa (zpL pa)) * (100 + 300 * d) ≤ mc) (hms : zgd (zpts M p pa f m) x.1 x.2 * (zrm (zpts M p pa f m) x.1 x.2 * zpD pa (zpL pa)) * (1400 + 3000 * d) ≤ ms) (Q : hH → Prop)
    (hQ : ∀ S1 E1' E2' kn' lf' rs, kTg Kc A h p M tr dg f E1' E2' S1 kn' lf' (zsd (zGk M p f d) M p f pa m Tt x) → (∀ q y, q ≠ by_ → kc (kMu Kc A h E1 E2) S q y → kc (kMu Kc A h E1' E2') S1 q y) → kc (kMu Kc A h E1' E2') S1 by_ (kSo x.1 x.2 (zpts M p pa f m x.1 - zpts M p pa f m x.2) (zrm (zpts M p pa f m) x.1 x.2) (zgd (zpts M p pa f m) x.1 x.2) (zsl pa (zpts M p pa f m) x.1 x.2) (some mo) (some rs)) → kc (kMu Kc A h E1' E2') S1 rs (kI 9 (zside M p pa f (zpts M p pa f m) x).2.2.2.2.2.2.2) → (∀ i, i < n0 → kn' i = kn0 i) → kKrs (kMu Kc A h E1' E2') S1 kn' M p f n0 (zsd (zGk M p f d) M p f pa m Tt x).1 → Q S1) :
    wX6_splits Kc self mc ms S (h 0) (w (zpL pa)) by_ hs Q := by
  have hv := hg.1
  have hL1 := hv.1
  have hL6 := hv.2.1
  have hp7 : 2 ≤ p ∧ p ≤ 7 := by unfold zpr at hp; omega
  have hfac := zfac_ok hp (by omega) hM2 hg hf9 hm8 hx
  have hx' := hx
  obtain ⟨x1, x2, x3, x4⟩ := hx
  have hgd := zgd_ok x1 x4
  have hD := hv.D hL1 (Nat.le_refl _)
  have hA1 : ∀ k, 1 ≤ k → k < 77 → A 0 ≠ A k := fun k h1 h2 => hA.ne (by omega) (by omega) (by omega)
  have hrD : 1 ≤ zrm (zpts M p pa f m) x.1 x.2 * zpD pa (zpL pa) := Nat.mul_pos hgd.2.2.2.1 hD.1
  have hrm : zgd (zpts M p pa f m) x.1 x.2 * (zrm (zpts M p pa f m) x.1 x.2 * zpD pa (zpL pa)) ≤ 8 := by
    have : (x.2 - x.1) * zpD pa (zpL pa) ≤ m * zpD pa (zpL pa) := Nat.mul_le_mul_right _ (by omega)
    rw [← Nat.mul_assoc, hgd.2.2.1]
    omega
  have hgW : zgd (zpts M p pa f m) x.1 x.2 ≤ zgd (zpts M p pa f m) x.1 x.2 * (zrm (zpts M p pa f m) x.1 x.2 * zpD pa (zpL pa)) := Nat.le_mul_of_pos_right _ hrD
  have hb1 := Nat.mul_add (zgd (zpts M p pa f m) x.1 x.2 * (zrm (zpts M p pa f m) x.1 x.2 * zpD pa (zpL pa))) 60 (40 + 300 * d)
  have hb2 := Nat.mul_add (zgd (zpts M p pa f m) x.1 x.2 * (zrm (zpts M p pa f m) x.1 x.2 * zpD pa (zpL pa))) 1060 (340 + 3000 * d)
  have e1 : 60 + (40 + 300 * d) = 100 + 300 * d := by omega
  have e2 : 1060 + (340 + 3000 * d) = 1400 + 3000 * d := by omega
  rw [e1] at hb1
  rw [e2] at hb2
  unfold wX6_splits
  refine ⟨by omega, by omega, ?_⟩
  intro a3 ha3
  have mrs := kMu.new ht ha3
  have ob1 := ob.1
  have nb3 : by_ ≠ a3 := kne ob1 ha3
  try simp (disch := first | assumption | omega) only [zl32, zl64, i32_add, i32_sub, i32_mul, i32_neg, i64_add, i64_sub, i64_mul, i64_neg, cv_gi, cv_gw, cv_ga, cv_gl, cv_pi, cv_pw, cv_pa, cv_pl, zf_S, zf_i, zf_l, mz1, mz2, mz3, mz4, kn_haI, kn_haJ, kn_haQ, kn_gaI, kn_gaJ, kn_gaQ, kn_hoA, kn_hlen, kn_hfI, kn_hfJ, kn_hfR, kn_hfN, kn_hoI, kn_hoJ, kn_hoR, kn_hoN, kn_hoC, kn_hoP, kn_paI, kn_paJ, kn_paQ, kn_hpF, kuI_ha, kuI_ga, kuI_pa, kuI_hA, kuI_ln, kuB_ha, kuB_ga, kuB_pa, kuB_hA, kuB_ln, kuJ_ha, kuJ_ga, kuJ_pa, kuJ_hA, kuJ_ln, kuQ_ha, kuQ_ga, kuQ_pa, kuQ_hA, kuQ_ln, kuO_fI, kuO_fJ, kuO_fR, kuO_fN, kuO_oI, kuO_oJ, kuO_oR, kuO_oN, kuO_oC, kuO_oP, kuO_pF, kvI_s, kvJ_s, kvR_s, kvN_s, kvN_0, kvN_v, kpI_s, kpJ_s, kpR_s, kpN_s, kpN_0, kpN_v, List.getElem?_cons_zero, List.getElem?_cons_succ, List.set_cons_zero, List.set_cons_succ, List.length_cons, List.length_nil, forall_eq, exists_eq_left', Option.some.injEq, true_and, and_true, reduceIte, Nat.reduceEqDiff, Nat.reduceAdd, Nat.reduceLT, hup_hup, hup_at, eq_self, if_true, if_false, implies_true, true_implies, false_implies, not_true_eq_false, not_false_eq_true, or_true, true_or, i32_10, i32_01, kI_new, kB_new, kJ_new, kI_new2, kB_new2, kJ_new2, kQ_new, kO_new, zkd, zijd, zip1, zip, zim1, i32_natN, ziL, zi_0, zi_1, kO_fI ob1, kO_fJ ob1, kO_fR ob1, kO_fN ob1, kO_oI ob1, kO_oJ ob1, kO_oR ob1, kO_oN ob1, kO_oC ob1, kO_oP ob1, kO_pF ob1]
  refine ⟨zgd (zpts M p pa f m) x.1 x.2 + 3, ?_⟩
  obtain ⟨S5, hS5⟩ : ∃ S5, S5 = (hup (hup S by_ (kSo x.1 x.2 (zpts M p pa f m x.1 - zpts M p pa f m x.2) (zrm (zpts M p pa f m) x.1 x.2) (zgd (zpts M p pa f m) x.1 x.2) (zsl pa (zpts M p pa f m) x.1 x.2) (some mo) (some a3))) a3 (kI 9 (fun _ => 0))) := ⟨_, rfl⟩
  have k5 : ∀ q y, S q = some y → q ≠ by_ → S5 q = some y := by
    intro q y hq hn
    rw [hS5, hup_ne (kne hq ha3), hup_ne hn]
    exact hq
  have ob5 : S5 by_ = some (kSo x.1 x.2 (zpts M p pa f m x.1 - zpts M p pa f m x.2) (zrm (zpts M p pa f m) x.1 x.2) (zgd (zpts M p pa f m) x.1 x.2) (zsl pa (zpts M p pa f m) x.1 x.2) (some mo) (some a3)) := by
    rw [hS5, hup_ne nb3]
    exact hup_at _ _ _
  have ir5 : S5 a3 = some (kI 9 (fun _ => 0)) := by rw [hS5]; exact hup_at _ _ _
  have hnone5 : ∀ q, S5 q = none → S q = none := by
    intro q hq
    rcases hz : S q with _ | y
    · rfl
    · by_cases c : q = by_
      · rw [c, ob5] at hq; cases hq
      · rw [k5 q y hz c] at hq; cases hq
  show wX6_splits_l11 Kc self mc ms Q (h 0) (w (zpL pa)) by_ hs (zgd (zpts M p pa f m) x.1 x.2 + 3) 1 9 (hup (hup S by_ (kSo x.1 x.2 (zpts M p pa f m x.1 - zpts M p pa f m x.2) (zrm (zpts M p pa f m) x.1 x.2) (zgd (zpts M p pa f m) x.1 x.2) (zsl pa (zpts M p pa f m) x.1 x.2) (some mo) (some a3))) a3 (kI 9 (fun _ => 0))) (i32 ((0 : Nat) : Int))
  rw [← hS5]
  clear hS5
  obtain ⟨hd, hv0, oT⟩ := ht.2.1
  have o0 := ht.1.1
  have oT5 := k5 _ _ oT (kne2 oT ob1 (by intro e; cases e))
  have o05 := k5 _ _ o0 (kne2 o0 ob1 (by intro e; cases e))
  have oo5 := k5 _ _ oo.1 (kne2 oo.1 ob1 (by intro e; cases e))
  have ip5 := k5 _ _ ip.1 (kne2 ip.1 ob1 (by intro e; cases e))
  have om5 := k5 _ _ om.1 (kne2 om.1 ob1 (by intro e; cases e))
  have im5 := k5 _ _ im.1 (kne2 im.1 ob1 (by intro e; cases e))
  have qh5 := k5 _ _ qh.1 (kne2 qh.1 ob1 (by intro e; cases e))
  have hW5 : kWy (fun q => kMu Kc A h E1 E2 q ∨ q = a3) S5 w sd pa := hW.by_ ob1 hsd (fun q y hn hq => ⟨k5 q y hq.1 hn, fun e => e.elim hq.2 (kne hq.1 ha3)⟩)
  have hvm := fun q (hq : 1 ≤ q) => zvm_bd hv hg.2.1 (zsl pa (zpts M p pa f m) x.1 x.2) q hq
  refine kC_resid o05 hp hM hM2 hW5 hv hg.2.1 oT5 oo5 ip5 (zpts_bd hv hm8) x1 (by omega) x4 x3 ob5 om5 im5 hvm qh5 (μh := fun i => zhm M p pa (zprt M pa f i)) (rh := fun i => zhr M p pa (zprt M pa f i)) (fun i hi hpi => ?_) (fun i q hq => ?_) (fun i hi hpi => ?_) (Or.inr rfl) ir5 (kne im.1 ha3) (kne ip.1 ha3) ((zside M p pa f (zpts M p pa f m) x).2.2.2.2.2.2.2) rfl (fun k => ?_) self mc ms Q (by omega) (by omega) (fun S1 n kc1 nc1 hkc hnc hF1 ir1 => ?_) (zgd (zpts M p pa f m) x.1 x.2 + 1) 0 (by omega) S5 1 9 (by omega) (by omega) (kF.refl _) ?_
  · obtain ⟨h', t, a1, a2, a3'⟩ := hheads i hi hpi
    exact ⟨h', t, a1, k5 _ _ a2.1 (kne2 a2.1 ob1 (by intro e; cases e)), k5 _ _ a3'.1 (kne2 a3'.1 ob1 (by intro e; cases e)), kne a2.1 ha3, kne a3'.1 ha3⟩
  · have := zhm_bd (M := M) (p := p) hv (zprt M pa f i) q hq
    omega
  · have := zhr_nz hp (by omega) hM2 hv (zprt_red (by omega) hf9 i) (zpts_on hv hpi).2.2.2
    omega
  · by_cases c : k < 9
    · exact hfac.1 k c
    · have hz : (zside M p pa f (zpts M p pa f m) x).2.2.2.2.2.2.2 k = 0 := (zside_re hp (by omega) hM2 hv hg.2.1 hf9 (by omega) x3 x1 x4).2.2 k (by omega)
      rw [hz]
      omega
  · have ob6 := hF1 _ _ ob5 nb3
    have oo6 := hF1 _ _ oo5 (kne oo.1 ha3)
    have oT6 := hF1 _ _ oT5 (kne oT ha3)
    have o06 := hF1 _ _ o05 (kne o0 ha3)
    have d1 : i32 (zgd (zpts M p pa f m) x.1 x.2 : Int) < i32 ((zgd (zpts M p pa f m) x.1 x.2 + 1 : Nat) : Int) := (i32_lt (by omega) (by omega) (by omega) (by omega)).mpr (by omega)
    rw [wX6_splits_l11]
    try simp (disch := first | assumption | omega) only [zl32, zl64, i32_add, i32_sub, i32_mul, i32_neg, i64_add, i64_sub, i64_mul, i64_neg, cv_gi, cv_gw, cv_ga, cv_gl, cv_pi, cv_pw, cv_pa, cv_pl, zf_S, zf_i, zf_l, mz1, mz2, mz3, mz4, kn_haI, kn_haJ, kn_haQ, kn_gaI, kn_gaJ, kn_gaQ, kn_hoA, kn_hlen, kn_hfI, kn_hfJ, kn_hfR, kn_hfN, kn_hoI, kn_hoJ, kn_hoR, kn_hoN, kn_hoC, kn_hoP, kn_paI, kn_paJ, kn_paQ, kn_hpF, kuI_ha, kuI_ga, kuI_pa, kuI_hA, kuI_ln, kuB_ha, kuB_ga, kuB_pa, kuB_hA, kuB_ln, kuJ_ha, kuJ_ga, kuJ_pa, kuJ_hA, kuJ_ln, kuQ_ha, kuQ_ga, kuQ_pa, kuQ_hA, kuQ_ln, kuO_fI, kuO_fJ, kuO_fR, kuO_fN, kuO_oI, kuO_oJ, kuO_oR, kuO_oN, kuO_oC, kuO_oP, kuO_pF, kvI_s, kvJ_s, kvR_s, kvN_s, kvN_0, kvN_v, kpI_s, kpJ_s, kpR_s, kpN_s, kpN_0, kpN_v, List.getElem?_cons_zero, List.getElem?_cons_succ, List.set_cons_zero, List.set_cons_succ, List.length_cons, List.length_nil, forall_eq, exists_eq_left', Option.some.injEq, true_and, and_true, reduceIte, Nat.reduceEqDiff, Nat.reduceAdd, Nat.reduceLT, hup_hup, hup_at, eq_self, if_true, if_false, implies_true, true_implies, false_implies, not_true_eq_false, not_false_eq_true, or_true, true_or, i32_10, i32_01, kI_new, kB_new, kJ_new, kI_new2, kB_new2, kJ_new2, kQ_new, kO_new, zkd, zijd, zip1, zip, zim1, i32_natN, ziL, zi_0, zi_1, kO_fI ob6, kO_fJ ob6, kO_fR ob6, kO_fN ob6, kO_oI ob6, kO_oJ ob6, kO_oR ob6, kO_oN ob6, kO_oC ob6, kO_oP ob6, kO_pF ob6, kO_fI oo6, kO_fJ oo6, kO_fR oo6, kO_fN oo6, kO_oI oo6, kO_oJ oo6, kO_oR oo6, kO_oN oo6, kO_oC oo6, kO_oP oo6, kO_pF oo6, kO_fI oT6, kO_fJ oT6, kO_fR oT6, kO_fN oT6, kO_oI oT6, kO_oJ oT6, kO_oR oT6, kO_oN oT6, kO_oC oT6, kO_oP oT6, kO_pF oT6, d1]
    have hs6 : kScr A S1 := ht.1.2.1.keep (fun k k1 k2 y hy => by
      obtain ⟨y', hy'⟩ := ht.1.2.1.ex k k1 k2
      refine hF1 _ _ (k5 _ _ hy ?_) (kne hy ha3)
      intro e
      exact ht.scn ob1 (fun _ _ e => by cases e) (fun _ _ e => by cases e) (fun _ _ _ e => by cases e) ⟨k, k1, k2, e.symm⟩)
    have hK6 : kKc Kc S1 := by
      obtain ⟨fk, hk⟩ := ht.1.2.2
      exact ⟨fk, hF1 _ _ (k5 _ _ hk (kne2 hk ob1 (by intro e; cases e))) (kne hk ha3)⟩
    have hnone6 : ∀ q, S1 q = none → S q = none := by
      intro q hq
      rcases hz : S q with _ | y
      · rfl
      · by_cases c : q = by_
        · rw [c, ob6] at hq; cases hq
        · rw [hF1 _ _ (k5 q y hz c) (kne hz ha3)] at hq; cases hq
    refine ⟨⟨_, o06⟩, 40, 800, by omega, by omega, ?_⟩
    refine kC_factorsOf hA o06 hK6 hs6.2.1 hp ir1 hfac.1 hfac.2.1 40 800 (by omega) (by omega) _ (fun S2 r E cap g hF2 hI2 hr hAL hcp hE hfs => ?_)
    have ns : ∀ q y, S1 q = some y → (∀ n g, y ≠ kI n g) → ¬ kTs A q := by
      intro q y hq hn hk
      rcases hk with e | e | e
      · obtain ⟨g, hg'⟩ := hs6.2.1 3 (by omega) (by omega); rw [e, hg'] at hq; injection hq with hq; exact hn _ _ hq.symm
      · obtain ⟨g, hg'⟩ := hs6.2.1 4 (by omega) (by omega); rw [e, hg'] at hq; injection hq with hq; exact hn _ _ hq.symm
      · obtain ⟨g, hg'⟩ := hs6.2.1 5 (by omega) (by omega); rw [e, hg'] at hq; injection hq with hq; exact hn _ _ hq.symm
    have kp : ∀ q y, q ≠ by_ → S q = some y → ¬ kSc A q → S2 q = some y := by
      intro q y hn hq hsc
      refine hF2 _ _ (hF1 _ _ (k5 q y hq hn) (kne hq ha3)) (fun hk => hsc ?_)
      rcases hk with e | e | e
      · exact ⟨3, by omega, by omega, e⟩
      · exact ⟨4, by omega, by omega, e⟩
      · exact ⟨5, by omega, by omega, e⟩
    have kp2 : ∀ q y, q ≠ by_ → kc (kMu Kc A h E1 E2) S q y → kc (kMu Kc A h E1 E2) S2 q y := fun q y hn hq => ⟨kp q y hn hq.1 (fun e => hq.2 (Or.inl e)), hq.2⟩
    have nit6 := ht.nit ob1 (by decide)
    have ob7 : kc (kMu Kc A h E1 E2) S2 by_ (kSo x.1 x.2 (zpts M p pa f m x.1 - zpts M p pa f m x.2) (zrm (zpts M p pa f m) x.1 x.2) (zgd (zpts M p pa f m) x.1 x.2) (zsl pa (zpts M p pa f m) x.1 x.2) (some mo) (some a3)) := ⟨hF2 _ _ ob6 (ns _ _ ob6 (fun _ _ e => by cases e)), ob.2⟩
    have ir7 : kc (kMu Kc A h E1 E2) S2 a3 (kI 9 (zside M p pa f (zpts M p pa f m) x).2.2.2.2.2.2.2) := by
      refine ⟨hF2 _ _ ir1 (fun hk => ?_), mrs⟩
      refine mrs (Or.inl ?_)
      rcases hk with e | e | e
      · exact ⟨3, by omega, by omega, e⟩
      · exact ⟨4, by omega, by omega, e⟩
      · exact ⟨5, by omega, by omega, e⟩
    have mn : ∀ q, S1 q = none → ¬ kMu Kc A h E1 E2 q := fun q hq => kMu.new ht (hnone6 q hq)
    have hs7 : kScr A S2 := by
      have key : ∀ k, 1 ≤ k → k < 77 → ¬ (3 ≤ k ∧ k ≤ 5) → ∀ y, S1 (A k) = some y → S2 (A k) = some y := by
        intro k k1 k2 k3 y hy
        refine hF2 _ _ hy (fun hk => ?_)
        rcases hk with e | e | e
        · exact hA.ne (by omega) (by omega) (show k ≠ 3 by omega) e
        · exact hA.ne (by omega) (by omega) (show k ≠ 4 by omega) e
        · exact hA.ne (by omega) (by omega) (show k ≠ 5 by omega) e
      refine ⟨fun k h1 h2 => ?_, hI2, ?_, fun i hi => ?_, fun k h1 h2 => ?_⟩
      · obtain ⟨g, e⟩ := hs6.1 k h1 h2
        exact ⟨g, key k h1 (by omega) (by omega) _ e⟩
      · obtain ⟨g, e, h⟩ := hs6.2.2.1
        exact ⟨g, key 6 (by omega) (by omega) (by omega) _ e, h⟩
      · obtain ⟨g, e, h⟩ := hs6.2.2.2.1 i hi
        exact ⟨g, key (7 + i) (by omega) (by omega) (by omega) _ e, h⟩
      · obtain ⟨g, e⟩ := hs6.2.2.2.2 k h1 h2
        exact ⟨g, key k (by omega) h2 (by omega) _ e⟩
    have ht7 : kTg Kc A h p M tr dg f E1 E2 S2 kn lf Tt := by
      refine ht.keep hh (X := fun q => q = by_) (fun q y hq hsc _ _ hx => kp q y hx hq hsc) (fun q e => by rw [e]; exact Or.inr (Or.inl ⟨15, _, ob1, Or.inl rfl⟩)) hs7 ⟨hd, hv0, hF2 _ _ oT6 (ns _ _ oT6 (fun _ _ e => by cases e))⟩ ?_ hA1 (fun k _ k2 => hA0 k (by omega)) ht.h4s
      have iP := ht.2.2.1
      refine kp _ _ (kne2 iP ob1 (by intro e; cases e)) iP ?_
      rintro ⟨k, k1, k2, e⟩
      exact (hh.1 k (by omega)).2.2.2 e.symm
    have hW7 := hW.by_ ob1 hsd kp2
    obtain ⟨⟨v, oL⟩, ⟨fe, qE, hfe⟩, hlen, hc10, _⟩ := hAL
    refine ⟨⟨_, oL⟩, 1, 4, by omega, by omega, ?_⟩
    refine kC_iter oL (by omega) (by omega) _ (fun it hit => ?_)
    refine ⟨(zFc p (zside M p pa f (zpts M p pa f m) x).2.2.2.2.2.2.2).length + 1, ?_⟩
    rw [← Int.natCast_mul]
    have hnr : ¬ kMu Kc A h E1 E2 r := mn r hr
    have hE7 : kc (kMu Kc A h E1 E2) S2 E (kQ 3 cap fe) := by
      refine ⟨qE, ?_⟩
      rcases hE with e | e
      · rw [e]; exact ht.kc0 hA0
      · exact mn _ e
    have hdr : (zFc p (zside M p pa f (zpts M p pa f m) x).2.2.2.2.2.2.2).drop 0 = zFc p (zside M p pa f (zpts M p pa f m) x).2.2.2.2.2.2.2 := rfl
    have hzs : zsum (zFc p (zside M p pa f (zpts M p pa f m) x).2.2.2.2.2.2.2) * (zrm (zpts M p pa f m) x.1 x.2 * zpD pa (zpL pa)) ≤ zgd (zpts M p pa f m) x.1 x.2 * (zrm (zpts M p pa f m) x.1 x.2 * zpD pa (zpL pa)) := Nat.mul_le_mul_right _ hfac.2.2.1
    have hz1 := Nat.mul_le_mul_right (40 + 300 * d) hzs
    have hz2 := Nat.mul_le_mul_right (340 + 3000 * d) hzs
    have ht8 := ht7.ext hh hA0 hA1 (kF.new hit (y := kIt 0 (-1) v r))
    have hG8 : kG (kMu Kc A h E1 E2) (kMu Kc A h E1 E2) S2 (hup S2 it (kIt 0 (-1) v r)) := (kF.new (M := kN) hit).G (fun _ h => h.elim)
    refine kC_roots hA hh hA0 hp hMp hM hM2 hf9 hself hg hkm hLd hm8 hme hx' hW7 (kp2 _ _ (kne2 oo.1 ob1 (by intro e; cases e)) oo) ob7 (kp2 _ _ (kne2 om.1 ob1 (by intro e; cases e)) om) (kp2 _ _ (kne2 im.1 ob1 (by intro e; cases e)) im) ⟨oL, hnr⟩ hE7 hfe hlen (by omega) (fun j y hy => ?_) (fun y hy => ?_) hfac.2.2.1 hw0 hit mc ms Q (zFc p (zside M p pa f (zpts M p pa f m) x).2.2.2.2.2.2.2).length 0 (by omega) (hup S2 it (kIt 0 (-1) v r)) E1 E2 kn lf Tt (-1) _ _ ht8 hG8 (hup_at _ _ _) hkn hn0 ?_ (hcap.mono hzs) ?_ ?_ (fun S4 E1' E2' kn' lf' ht4 hG4 hkn4 hrec4 => ?_)
    · obtain ⟨K1, a, K2, K3, K4⟩ := hfs j y hy
      exact ⟨a, ⟨K3, mn _ K1⟩, ⟨K4, mn _ K2⟩⟩
    · obtain ⟨b1, b2, b3⟩ := hfac.2.2.2 y hy
      exact ⟨⟨b1, b2, b3⟩, zFc_rk hp hfac.1 y hy⟩
    · exact hrec.fr (fun q z _ hso hz => hG8 _ _ (kp2 q z (fun e => by
        have hz1 := hz.1
        rw [e, ob1] at hz1
        injection hz1 with hz1
        exact hso _ _ _ _ _ _ _ hz1.symm) hz)) (fun _ _ => rfl)
    · rw [hdr]; omega
    · rw [hdr]; omega
    · exact hQ S4 E1' E2' kn' lf' a3 ht4 (fun q y hn hq => hG4 _ _ (kp2 q y hn hq)) (hG4 _ _ ob7) (hG4 _ _ ir7) hkn4 hrec4
  · rw [ir5]
    congr 1
