/-! CLASS 26: splits: the residual -/
set_option maxRecDepth 100000
theorem kC_resid1 {S : hH} {A : Nat → Nat} {p M : Int} {tr : Option Nat} (o0S : S (A 0) = some (kOb A p M tr)) (hp2 : 2 ≤ p) (hp7 : p ≤ 7) {m : Nat → Prop} {w sd : Nat → Nat} {pa : zP} (hW : kWy m S w sd pa) (hv : zPv M pa) (hw : zPw p pa) {T fa L1 L2 P : Nat} {dg hv0 : Int} {hd : Option Nat} (oTS : S T = some (kTo fa dg L1 L2 P hd hv0 (A 0))) {by_ hs mo tm rs : Nat} {ba be bf br bd va rr : Int} {sm : Nat → Int} (obS : S by_ = some (kSo ba be bf br bd va (some mo) (some rs))) (omS : S mo = some (kMo tm rr)) (imS : S tm = some (kI 7 sm)) (hsm : ∀ q, 1 ≤ q → 0 ≤ sm q ∧ sm q ≤ 3) {fh : Nat → Option Nat} (qhS : S hs = some (kQ 4 9 fh)) {I h t : Nat} (hI8 : I ≤ 8) (hfh : fh I = some h) {μ : Nat → Int} {r : Int} (ohS : S h = some (kMo t r)) (itS : S t = some (kI 7 μ)) (hμ : ∀ q, 1 ≤ q → 0 ≤ μ q ∧ μ q ≤ 100) (hr : 0 ≤ r ∧ r < p) (k : Nat) (hk8 : k ≤ 8) (hmrs : m rs) {g : Nat → Int} (irS : S rs = some (kI 9 g)) {x : Nat} (hx : S x = none) (kc nc mc ms : Nat) (hmc : kc + 1 ≤ mc) (hms : nc + 7 ≤ ms) (R : Nat → Nat → hH → Prop) (hR : ∀ S2, kF (fun q => q = rs) S S2 → S2 rs = some (kI 9 (zup g k (ztd pa p (fun q => μ q + k * sm q) r).2)) → R (kc + 1) (nc + 7) S2) :
    ∃ c92 s92, kc + c92 ≤ mc ∧ nc + s92 ≤ ms ∧ wX10_init c92 s92 (hup S x (kO 10 [.null, .int (i32 0)])) x (fun S92 => haQ S92 hs 4 (i32 I) ∧ ∃ a104p0, gaQ S92 hs I = some a104p0 ∧ hoC S92 x 10 ∧ wX10_comes S92 x a104p0 (i32 1) (fun S104 => haQ S104 hs 4 (i32 I) ∧ ∃ a113r, gaQ S104 hs I = some a113r ∧ hoI S104 a113r 10 1 ∧ hoP S104 x 10 1 ∧ hoN (hpF S104 x 1 (.int (hfI S104 a113r 1))) by_ 15 6 ∧ ∃ a127p0, hfN (hpF S104 x 1 (.int (hfI S104 a113r 1))) by_ 6 = some a127p0 ∧ hoC (hpF S104 x 1 (.int (hfI S104 a113r 1))) x 10 ∧ wX10_comes (hpF S104 x 1 (.int (hfI S104 a113r 1))) x a127p0 (i32 k) (fun S127 => hoC S127 T 6 ∧ wX6_carries S127 T (w (zpL pa)) x (fun S134 => hoN S134 by_ 15 7 ∧ hoI S134 x 10 1 ∧ ∃ a148r, hfN S134 by_ 7 = some a148r ∧ haI S134 a148r 0 (i32 k) ∧ R (kc + c92) (nc + s92) (paI S134 a148r k (hfI S134 x 1)))))) := by
  refine ⟨1, 7, by omega, by omega, ?_⟩
  refine kC_moInit (fs := []) (hup_at _ _ _) 1 7 (by omega) (by omega) _ (fun t2 ht2 => ?_)
  have nxt : x ≠ t2 := fun e => by rw [← e, hup_at] at ht2; cases ht2
  have ntx : t2 ≠ x := fun e => nxt e.symm
  have htS : S t2 = none := by rw [hup_ne ntx] at ht2; exact ht2
  have e0 : hup (hup (hup S x (kO 10 [.null, .int (i32 0)])) t2 (kI 7 (fun _ => 0))) x (kMo t2 1) = kSt S x t2 (fun _ => 0) 1 := by
    unfold kSt
    rw [hup_cm ntx, hup_hup, hup_cm nxt]
  rw [e0]
  have hk' : ∀ μ r q y, S q = some y → kSt S x t2 μ r q = some y := fun μ r q y hq => (kSt_o (kne hq hx) (kne hq htS)).trans hq
  have nht2 : t ≠ t2 := kne itS htS
  have nmt2 : tm ≠ t2 := kne imS htS
  have nTx : T ≠ x := kne oTS hx
  have nTt : T ≠ t2 := kne oTS htS
  have n0x : A 0 ≠ x := kne o0S hx
  have n0t : A 0 ≠ t2 := kne o0S htS
  have qh1 := hk' (fun _ => 0) 1 hs _ qhS
  have ox1 : kSt S x t2 (fun _ => 0) 1 x = some (kMo t2 1) := kSt_x
  clear e0 ht2
  rw [kQ_ha qh1, kQ_ga qh1, hfh]
  refine ⟨i32_in (by omega) (by omega) (by omega), h, rfl, ⟨_, ox1⟩, ?_⟩
  refine kC_comes ox1 (hk' _ _ _ _ ohS) (kSt_t ntx) (hk' _ _ _ _ itS) nht2 1 _ ?_
  rw [kSt_t' ntx]
  have qh2 := hk' (fun q => 0 + 1 * μ q) 1 hs _ qhS
  have oh2 := hk' (fun q => 0 + 1 * μ q) 1 h _ ohS
  have ox2 : kSt S x t2 (fun q => 0 + 1 * μ q) 1 x = some (kMo t2 1) := kSt_x
  rw [kQ_ha qh2, kQ_ga qh2, hfh]
  refine ⟨i32_in (by omega) (by omega) (by omega), h, rfl, ?_⟩
  have e1 : hpF (kSt S x t2 (fun q => 0 + 1 * μ q) 1) x 1 (.int (hfI (kSt S x t2 (fun q => 0 + 1 * μ q) 1) h 1)) = kSt S x t2 (fun q => 0 + 1 * μ q) r := by
    rw [kO_fI oh2, kO_pF ox2]
    unfold kSt
    rw [hup_hup]
    rfl
  rw [e1]
  refine ⟨⟨_, _, oh2, rfl⟩, ⟨_, ox2, Nat.lt_succ_self 1⟩, ?_⟩
  have ob3 := hk' (fun q => 0 + 1 * μ q) r by_ _ obS
  have ox3 : kSt S x t2 (fun q => 0 + 1 * μ q) r x = some (kMo t2 r) := kSt_x
  rw [kO_oN ob3, kO_fN ob3]
  refine ⟨⟨rfl, _, rfl⟩, mo, rfl, ⟨_, ox3⟩, ?_⟩
  refine kC_comes ox3 (hk' _ _ _ _ omS) (kSt_t ntx) (hk' _ _ _ _ imS) nmt2 k _ ?_
  rw [kSt_t' ntx]
  have eμ : (fun q => 0 + 1 * μ q + (k : Int) * sm q) = fun q => μ q + k * sm q := by
    funext q
    omega
  rw [eμ]
  refine ⟨⟨_, hk' _ _ _ _ oTS⟩, ?_⟩
  have hWS : kWy (fun q => (m q ∨ q = x) ∨ q = t2) S w sd pa := hW.G (m' := fun q => (m q ∨ q = x) ∨ q = t2) (fun q y hq => by
    refine ⟨hq.1, ?_⟩
    rintro ((h | h) | h)
    · exact hq.2 h
    · exact kne hq.1 hx h
    · exact kne hq.1 htS h)
  refine kC_carries o0S hp2 hp7 hWS hv hw oTS (Or.inl (Or.inr rfl)) (Or.inr rfl) ntx n0x n0t nTx nTt (fun q => μ q + k * sm q) r hr.1 hr.2 (fun q h1 h2 => ?_) _ ?_
  · have b1 := hμ q h1
    have b2 := hsm q h1
    have : 0 ≤ (k : Int) * sm q ∧ (k : Int) * sm q ≤ 24 := by
      refine ⟨Int.mul_nonneg (by omega) b2.1, ?_⟩
      have := Int.mul_le_mul (a := (k : Int)) (b := sm q) (c := 8) (d := 3) (by omega) b2.2 b2.1 (by omega)
      omega
    omega
  · generalize ztd pa p (fun q => μ q + k * sm q) r = Z at hR ⊢
    obtain ⟨μ2, r2⟩ := Z
    have ob4 := hk' μ2 r2 by_ _ obS
    have ir4 := hk' μ2 r2 rs _ irS
    have ox4 : kSt S x t2 μ2 r2 x = some (kMo t2 r2) := kSt_x
    rw [kO_oN ob4, kO_fN ob4]
    refine ⟨⟨rfl, _, rfl⟩, ⟨_, _, ox4, rfl⟩, rs, rfl, ?_⟩
    rw [kI_ha ir4, kO_fI ox4, show kvI ([Value.ref t2, Value.int (i32 r2)] : List Value)[1]? = i32 r2 from rfl, kI_pa ir4 (by omega)]
    refine ⟨i32_in (by omega) (by omega) (by omega), ?_⟩
    refine hR _ ?_ (hup_at _ _ _)
    intro q y hq hqs
    rw [hup_ne hqs]
    exact hk' _ _ _ _ hq
theorem kC_resid {Kc : Nat → Nat} {Sb : hH} {A : Nat → Nat} {p M : Int} {tr : Option Nat} (o0 : Sb (A 0) = some (kOb A p M tr)) (hp : zpr p) (hM : 1 < M) (hM2 : M < 536870912) {m : Nat → Prop} {w sd : Nat → Nat} {pa : zP} (hW : kWy m Sb w sd pa) (hv : zPv M pa) (hw : zPw p pa) {T fa L1 L2 P : Nat} {dg hv0 : Int} {hd : Option Nat} (oT : Sb T = some (kTo fa dg L1 L2 P hd hv0 (A 0))) {ab bb : Option Nat} {root lv mf nu fi ix wo : Int} {ka pt sl : Nat} (oo : Sb (w (zpL pa)) = some (kKo ab bb root lv mf nu ka (zpD pa (zpL pa)) wo pt sl fi ix)) {pts : Nat → Int} (ip : Sb pt = some (kI 9 pts)) (hb : zpb pts) {a b : Nat} (hab : a < b) (hb8 : b ≤ 8) (hf : pts b < pts a) (h0 : 0 ≤ pts b) {va : Int} {mo tm rs by_ hs : Nat} {rr : Int} {sm : Nat → Int} (ob : Sb by_ = some (kSo a b (pts a - pts b) (zrm pts a b) (zgd pts a b) va (some mo) (some rs))) (om : Sb mo = some (kMo tm rr)) (im : Sb tm = some (kI 7 sm)) (hsm : ∀ q, 1 ≤ q → 0 ≤ sm q ∧ sm q ≤ 3) {fh : Nat → Option Nat} (qh : Sb hs = some (kQ 4 9 fh)) {μh : Nat → Nat → Int} {rh : Nat → Int} (hheads : ∀ i, i ≤ 8 → 0 ≤ pts i → ∃ h t, fh i = some h ∧ Sb h = some (kMo t (rh i)) ∧ Sb t = some (kI 7 (μh i)) ∧ h ≠ rs ∧ t ≠ rs) (hμh : ∀ i q, 1 ≤ q → 0 ≤ μh i q ∧ μh i q ≤ 100) (hrh : ∀ i, i ≤ 8 → 0 ≤ pts i → 0 ≤ rh i ∧ rh i < p) (hmrs : m rs) (ir : Sb rs = some (kI 9 (fun _ => 0))) (nmrs : tm ≠ rs) (nprs : pt ≠ rs) (resid : Nat → Int) (hres : resid = fun k => if k ≤ zgd pts a b ∧ pts (a + k * zrm pts a b) = pts a - k * ((pts a - pts b) / (zgd pts a b : Int)) then (ztd pa p (fun q => μh (a + k * zrm pts a b) q + k * sm q) (rh (a + k * zrm pts a b))).2 else 0) (hresb : ∀ k, 0 ≤ resid k ∧ resid k < p)
    (self : Nat → Nat → hH → Nat → Nat → (hH → Prop) → Prop) (mc ms : Nat) (Q : hH → Prop) (hmc : 1 + 2 * (zgd pts a b + 1) ≤ mc) (hms : 9 + 9 * (zgd pts a b + 1) ≤ ms) (hend : ∀ S1 n kc nc, kc ≤ 1 + 2 * (zgd pts a b + 1) → nc ≤ 9 + 9 * (zgd pts a b + 1) → kF (fun q => q = rs) Sb S1 → S1 rs = some (kI 9 resid) → wX6_splits_l11 Kc self mc ms Q T (w (zpL pa)) by_ hs (n + 1) kc nc S1 (i32 ((zgd pts a b + 1 : Nat) : Int))) :
    ∀ n k : Nat, k + n = zgd pts a b + 1 → ∀ (S : hH) (kc nc : Nat), kc ≤ 1 + 2 * k → nc ≤ 9 + 9 * k → kF (fun q => q = rs) Sb S → S rs = some (kI 9 (zrem k resid)) → wX6_splits_l11 Kc self mc ms Q T (w (zpL pa)) by_ hs (n + 2) kc nc S (i32 k) := by
  have hp7 : 2 ≤ p ∧ p ≤ 7 := by unfold zpr at hp; omega
  have hg := zgd_ok hab hf
  obtain ⟨hg1, hg2, hg3, hg4, hg5, hg6, hg7⟩ := hg
  have ha := hb a
  have nbrs : by_ ≠ rs := kne2 ob ir (by intro e; cases e)
  have nors : w (zpL pa) ≠ rs := kne2 oo ir (by intro e; cases e)
  have nTrs : T ≠ rs := kne2 oT ir (by intro e; cases e)
  have n0rs : A 0 ≠ rs := kne2 o0 ir (by intro e; cases e)
  have nhrs : hs ≠ rs := kne2 qh ir (by intro e; cases e)
  have nomrs : mo ≠ rs := kne2 om ir (by intro e; cases e)
  intro n
  induction n with
  | zero =>
    intro k hk S kc nc hkc hnc hF irS
    have : k = zgd pts a b + 1 := by omega
    subst this
    refine hend S 1 kc nc (by omega) (by omega) hF ?_
    rw [irS]
    congr 1
    refine kI_ext (fun x hx => ?_)
    unfold zrem
    by_cases c : x < zgd pts a b + 1
    · rw [if_pos c]
    · rw [if_neg c, hres]
      dsimp only
      rw [if_neg (fun h => by omega)]
  | succ n ih =>
    intro k hk S kc nc hkc hnc hF irS
    have obS := hF.at ob nbrs
    have ooS := hF.at oo nors
    have oTS := hF.at oT nTrs
    have o0S := hF.at o0 n0rs
    have ipS := hF.at ip nprs
    have qhS := hF.at qh nhrs
    have omS := hF.at om nomrs
    have imS := hF.at im nmrs
    have hi8 : a + k * zrm pts a b ≤ b := by
      have h1 : k * zrm pts a b ≤ zgd pts a b * zrm pts a b := Nat.mul_le_mul_right _ (by omega)
      rw [hg3] at h1
      omega
    have hkq : 0 ≤ (k : Int) * ((pts a - pts b) / (zgd pts a b : Int)) ∧ (k : Int) * ((pts a - pts b) / (zgd pts a b : Int)) ≤ pts a - pts b := by
      refine ⟨Int.mul_nonneg (by omega) (by omega), ?_⟩
      have := Int.mul_le_mul_of_nonneg_right (show (k : Int) ≤ (zgd pts a b : Int) by omega) (show 0 ≤ (pts a - pts b) / (zgd pts a b : Int) by omega)
      omega
    have hpi := hb (a + k * zrm pts a b)
    have eix : (a : Int) + (k : Int) * (zrm pts a b : Int) = ((a + k * zrm pts a b : Nat) : Int) := by
      rw [Int.natCast_add, Int.natCast_mul]
    have eidv : i32 (pts a - pts b) / i32 (zgd pts a b : Int) = i32 ((pts a - pts b) / (zgd pts a b : Int)) := by
      rw [i32_div (by omega) (by omega) (by omega) (by omega), ze_tdivn (by omega)]
    have cg : ¬ i32 (zgd pts a b : Int) = i32 0 := fun e => by rw [i32_eq (by omega) (by omega) (by omega) (by omega)] at e; omega
    have ihn := ih (k + 1) (by omega)
    have hnext : zrem k resid k = 0 := by
      unfold zrem
      rw [if_neg (by omega)]
    generalize hI : a + k * zrm pts a b = I at *
    have hIn : (i32 (I : Int)).toNatClampNeg = I := i32_natN (by omega)
    have han : (i32 (a : Int)).toNatClampNeg = a := i32_natN (by omega)
    rw [wX6_splits_l11]
    by_cases c1 : pts I < 0
    · have d1 : i32 (pts I) < i32 0 := (i32_lt (by omega) (by omega) (by omega) (by omega)).mpr c1
      try simp (disch := first | assumption | omega) only [zl32, zl64, i32_add, i32_sub, i32_mul, i32_neg, i64_add, i64_sub, i64_mul, i64_neg, cv_gi, cv_gw, cv_ga, cv_gl, cv_pi, cv_pw, cv_pa, cv_pl, zf_S, zf_i, zf_l, mz1, mz2, mz3, mz4, kn_haI, kn_haJ, kn_haQ, kn_gaI, kn_gaJ, kn_gaQ, kn_hoA, kn_hlen, kn_hfI, kn_hfJ, kn_hfR, kn_hfN, kn_hoI, kn_hoJ, kn_hoR, kn_hoN, kn_hoC, kn_hoP, kn_paI, kn_paJ, kn_paQ, kn_hpF, kuI_ha, kuI_ga, kuI_pa, kuI_hA, kuI_ln, kuB_ha, kuB_ga, kuB_pa, kuB_hA, kuB_ln, kuJ_ha, kuJ_ga, kuJ_pa, kuJ_hA, kuJ_ln, kuQ_ha, kuQ_ga, kuQ_pa, kuQ_hA, kuQ_ln, kuO_fI, kuO_fJ, kuO_fR, kuO_fN, kuO_oI, kuO_oJ, kuO_oR, kuO_oN, kuO_oC, kuO_oP, kuO_pF, kvI_s, kvJ_s, kvR_s, kvN_s, kvN_0, kvN_v, kpI_s, kpJ_s, kpR_s, kpN_s, kpN_0, kpN_v, List.getElem?_cons_zero, List.getElem?_cons_succ, List.set_cons_zero, List.set_cons_succ, List.length_cons, List.length_nil, forall_eq, exists_eq_left', Option.some.injEq, true_and, and_true, reduceIte, Nat.reduceEqDiff, Nat.reduceAdd, Nat.reduceLT, hup_hup, hup_at, eq_self, if_true, if_false, implies_true, true_implies, false_implies, not_true_eq_false, not_false_eq_true, or_true, true_or, i32_10, i32_01, kI_new, kB_new, kJ_new, kI_new2, kB_new2, kJ_new2, kQ_new, kO_new, zkd, zijd, zip1, zip, zim1, i32_natN, ziL, zi_0, zi_1, kO_fI obS, kO_fJ obS, kO_fR obS, kO_fN obS, kO_oI obS, kO_oJ obS, kO_oR obS, kO_oN obS, kO_oC obS, kO_oP obS, kO_pF obS, kO_fI ooS, kO_fJ ooS, kO_fR ooS, kO_fN ooS, kO_oI ooS, kO_oJ ooS, kO_oR ooS, kO_oN ooS, kO_oC ooS, kO_oP ooS, kO_pF ooS, kI_ha ipS, kI_ga ipS, kI_pa ipS, kI_hA ipS, kI_ln ipS, eix, eidv, cg, hIn, d1]
      repeat' (first | (exfalso; omega) | (with_reducible refine zb_in ?_ ?_ ?_ ?_; omega; omega; omega) | (with_reducible refine zb_le ?_ ?_ ?_ ?_ (fun _ => ?_) (fun _ => ?_); omega; omega; omega; omega) | (with_reducible refine zb_lt ?_ ?_ ?_ ?_ (fun _ => ?_) (fun _ => ?_); omega; omega; omega; omega) | (with_reducible refine zb_eq ?_ ?_ ?_ ?_ (fun _ => ?_) (fun _ => ?_); omega; omega; omega; omega) | (with_reducible refine zb_leL ?_ ?_ ?_ ?_ (fun _ => ?_) (fun _ => ?_); omega; omega; omega; omega) | (with_reducible refine zb_ltL ?_ ?_ ?_ ?_ (fun _ => ?_) (fun _ => ?_); omega; omega; omega; omega) | (with_reducible refine zb_eqL ?_ ?_ ?_ ?_ (fun _ => ?_) (fun _ => ?_); omega; omega; omega; omega) | (with_reducible refine zb_nz ?_ ?_ ?_ ?_; omega; omega; omega) | (with_reducible refine zb_nzL ?_ ?_ ?_ ?_; omega; omega; omega) | with_reducible refine zb_ite ?_ | with_reducible refine zb_iteL ?_ | ((with_reducible intro y hy); subst hy; try simp only [zl32, zl64, i32_add, i32_sub, i32_mul, i32_neg, i64_add, i64_sub, i64_mul, i64_neg, cv_gi, cv_gw, cv_ga, cv_gl, cv_pi, cv_pw, cv_pa, cv_pl, zf_S, zf_i, zf_l, mz1, mz2, mz3, mz4, zr_ii, zr_iw, zr_ia, zr_il, zr_wi, zr_ww, zr_wa, zr_wl, zr_ai, zr_aw, zr_aa, zr_al, zr_li, zr_lw, zr_la, zr_ll, zw_ii, zw_ww, zw_aa, zw_ll, reduceIte, Nat.reduceEqDiff, if_true, if_false]) | with_reducible refine zb_o1 ?_ | with_reducible refine zb_o2 ?_ | with_reducible refine zb_o3 ?_ | with_reducible refine zb_o4 ?_ | with_reducible refine zb_tr ?_ | exact trivial | with_reducible refine zb_T ?_ | with_reducible refine zb_sp ?_ ?_)
      refine ihn S kc nc (by omega) (by omega) hF ?_
      have : resid k = 0 := by
        rw [hres]
        dsimp only
        rw [hI, if_neg (fun h => by omega)]
      rw [irS, zrem_z k resid this]
    · have d1 : ¬ i32 (pts I) < i32 0 := i32_nlt (by omega) (by omega) (by omega) (by omega) (by omega)
      by_cases c2 : pts a - pts I = (pts a - pts b) / (zgd pts a b : Int) * k
      · have d2 : i32 (pts a - pts I) = i32 ((pts a - pts b) / (zgd pts a b : Int) * k) := by rw [c2]
        obtain ⟨h, t, hfh, oh, it, nh, nt⟩ := hheads I (by omega) (by omega)
        have ohS := hF.at oh nh
        have itS := hF.at it nt
        have hrk : resid k = (ztd pa p (fun q => μh I q + k * sm q) (rh I)).2 := by
          rw [hres]
          dsimp only
          rw [hI, if_pos ⟨by omega, by rw [Int.mul_comm (k : Int)]; omega⟩]
        have hrI := hrh I (by omega) (by omega)
        try simp (disch := first | assumption | omega) only [zl32, zl64, i32_add, i32_sub, i32_mul, i32_neg, i64_add, i64_sub, i64_mul, i64_neg, cv_gi, cv_gw, cv_ga, cv_gl, cv_pi, cv_pw, cv_pa, cv_pl, zf_S, zf_i, zf_l, mz1, mz2, mz3, mz4, kn_haI, kn_haJ, kn_haQ, kn_gaI, kn_gaJ, kn_gaQ, kn_hoA, kn_hlen, kn_hfI, kn_hfJ, kn_hfR, kn_hfN, kn_hoI, kn_hoJ, kn_hoR, kn_hoN, kn_hoC, kn_hoP, kn_paI, kn_paJ, kn_paQ, kn_hpF, kuI_ha, kuI_ga, kuI_pa, kuI_hA, kuI_ln, kuB_ha, kuB_ga, kuB_pa, kuB_hA, kuB_ln, kuJ_ha, kuJ_ga, kuJ_pa, kuJ_hA, kuJ_ln, kuQ_ha, kuQ_ga, kuQ_pa, kuQ_hA, kuQ_ln, kuO_fI, kuO_fJ, kuO_fR, kuO_fN, kuO_oI, kuO_oJ, kuO_oR, kuO_oN, kuO_oC, kuO_oP, kuO_pF, kvI_s, kvJ_s, kvR_s, kvN_s, kvN_0, kvN_v, kpI_s, kpJ_s, kpR_s, kpN_s, kpN_0, kpN_v, List.getElem?_cons_zero, List.getElem?_cons_succ, List.set_cons_zero, List.set_cons_succ, List.length_cons, List.length_nil, forall_eq, exists_eq_left', Option.some.injEq, true_and, and_true, reduceIte, Nat.reduceEqDiff, Nat.reduceAdd, Nat.reduceLT, hup_hup, hup_at, eq_self, if_true, if_false, implies_true, true_implies, false_implies, not_true_eq_false, not_false_eq_true, or_true, true_or, i32_10, i32_01, kI_new, kB_new, kJ_new, kI_new2, kB_new2, kJ_new2, kQ_new, kO_new, zkd, zijd, zip1, zip, zim1, i32_natN, ziL, zi_0, zi_1, kO_fI obS, kO_fJ obS, kO_fR obS, kO_fN obS, kO_oI obS, kO_oJ obS, kO_oR obS, kO_oN obS, kO_oC obS, kO_oP obS, kO_pF obS, kO_fI ooS, kO_fJ ooS, kO_fR ooS, kO_fN ooS, kO_oI ooS, kO_oJ ooS, kO_oR ooS, kO_oN ooS, kO_oC ooS, kO_oP ooS, kO_pF ooS, kI_ha ipS, kI_ga ipS, kI_pa ipS, kI_hA ipS, kI_ln ipS, eix, eidv, cg, hIn, d1, d2]
        repeat' (first | (exfalso; omega) | (with_reducible refine zb_in ?_ ?_ ?_ ?_; omega; omega; omega) | (with_reducible refine zb_le ?_ ?_ ?_ ?_ (fun _ => ?_) (fun _ => ?_); omega; omega; omega; omega) | (with_reducible refine zb_lt ?_ ?_ ?_ ?_ (fun _ => ?_) (fun _ => ?_); omega; omega; omega; omega) | (with_reducible refine zb_eq ?_ ?_ ?_ ?_ (fun _ => ?_) (fun _ => ?_); omega; omega; omega; omega) | (with_reducible refine zb_leL ?_ ?_ ?_ ?_ (fun _ => ?_) (fun _ => ?_); omega; omega; omega; omega) | (with_reducible refine zb_ltL ?_ ?_ ?_ ?_ (fun _ => ?_) (fun _ => ?_); omega; omega; omega; omega) | (with_reducible refine zb_eqL ?_ ?_ ?_ ?_ (fun _ => ?_) (fun _ => ?_); omega; omega; omega; omega) | (with_reducible refine zb_nz ?_ ?_ ?_ ?_; omega; omega; omega) | (with_reducible refine zb_nzL ?_ ?_ ?_ ?_; omega; omega; omega) | with_reducible refine zb_ite ?_ | with_reducible refine zb_iteL ?_ | ((with_reducible intro y hy); subst hy; try simp only [zl32, zl64, i32_add, i32_sub, i32_mul, i32_neg, i64_add, i64_sub, i64_mul, i64_neg, cv_gi, cv_gw, cv_ga, cv_gl, cv_pi, cv_pw, cv_pa, cv_pl, zf_S, zf_i, zf_l, mz1, mz2, mz3, mz4, zr_ii, zr_iw, zr_ia, zr_il, zr_wi, zr_ww, zr_wa, zr_wl, zr_ai, zr_aw, zr_aa, zr_al, zr_li, zr_lw, zr_la, zr_ll, zw_ii, zw_ww, zw_aa, zw_ll, reduceIte, Nat.reduceEqDiff, if_true, if_false]) | with_reducible refine zb_o1 ?_ | with_reducible refine zb_o2 ?_ | with_reducible refine zb_o3 ?_ | with_reducible refine zb_o4 ?_ | with_reducible refine zb_tr ?_ | exact trivial | with_reducible refine zb_T ?_ | with_reducible refine zb_sp ?_ ?_)
        all_goals (try exact i32_in (by omega) (by omega) (by omega))
        refine ⟨by omega, by omega, ?_⟩
        intro x hx
        refine kC_resid1 o0S hp7.1 hp7.2 (hW.G (hF.G (fun q h => by rw [h]; exact hmrs))) hv hw oTS obS omS imS hsm qhS (by omega) hfh ohS itS (hμh I) hrI k (by omega) hmrs irS hx (kc + 1) (nc + 2) mc ms (by omega) (by omega) (fun zk zn z => wX6_splits_l11 Kc self mc ms Q T (w (zpL pa)) by_ hs (n + 2) zk zn z (i32 ((k : Int) + 1))) (fun S2 hF2 ir2 => ?_)
        refine ihn S2 _ _ (by omega) (by omega) (hF.trans' hF2) ?_
        rw [ir2, ← hrk, zrem_up]
      · have d2 : ¬ i32 (pts a - pts I) = i32 ((pts a - pts b) / (zgd pts a b : Int) * k) := fun e => by
          rw [i32_eq (by omega) (by omega) (by rw [Int.mul_comm]; omega) (by rw [Int.mul_comm]; omega)] at e
          exact c2 e
        try simp (disch := first | assumption | omega) only [zl32, zl64, i32_add, i32_sub, i32_mul, i32_neg, i64_add, i64_sub, i64_mul, i64_neg, cv_gi, cv_gw, cv_ga, cv_gl, cv_pi, cv_pw, cv_pa, cv_pl, zf_S, zf_i, zf_l, mz1, mz2, mz3, mz4, kn_haI, kn_haJ, kn_haQ, kn_gaI, kn_gaJ, kn_gaQ, kn_hoA, kn_hlen, kn_hfI, kn_hfJ, kn_hfR, kn_hfN, kn_hoI, kn_hoJ, kn_hoR, kn_hoN, kn_hoC, kn_hoP, kn_paI, kn_paJ, kn_paQ, kn_hpF, kuI_ha, kuI_ga, kuI_pa, kuI_hA, kuI_ln, kuB_ha, kuB_ga, kuB_pa, kuB_hA, kuB_ln, kuJ_ha, kuJ_ga, kuJ_pa, kuJ_hA, kuJ_ln, kuQ_ha, kuQ_ga, kuQ_pa, kuQ_hA, kuQ_ln, kuO_fI, kuO_fJ, kuO_fR, kuO_fN, kuO_oI, kuO_oJ, kuO_oR, kuO_oN, kuO_oC, kuO_oP, kuO_pF, kvI_s, kvJ_s, kvR_s, kvN_s, kvN_0, kvN_v, kpI_s, kpJ_s, kpR_s, kpN_s, kpN_0, kpN_v, List.getElem?_cons_zero, List.getElem?_cons_succ, List.set_cons_zero, List.set_cons_succ, List.length_cons, List.length_nil, forall_eq, exists_eq_left', Option.some.injEq, true_and, and_true, reduceIte, Nat.reduceEqDiff, Nat.reduceAdd, Nat.reduceLT, hup_hup, hup_at, eq_self, if_true, if_false, implies_true, true_implies, false_implies, not_true_eq_false, not_false_eq_true, or_true, true_or, i32_10, i32_01, kI_new, kB_new, kJ_new, kI_new2, kB_new2, kJ_new2, kQ_new, kO_new, zkd, zijd, zip1, zip, zim1, i32_natN, ziL, zi_0, zi_1, kO_fI obS, kO_fJ obS, kO_fR obS, kO_fN obS, kO_oI obS, kO_oJ obS, kO_oR obS, kO_oN obS, kO_oC obS, kO_oP obS, kO_pF obS, kO_fI ooS, kO_fJ ooS, kO_fR ooS, kO_fN ooS, kO_oI ooS, kO_oJ ooS, kO_oR ooS, kO_oN ooS, kO_oC ooS, kO_oP ooS, kO_pF ooS, kI_ha ipS, kI_ga ipS, kI_pa ipS, kI_hA ipS, kI_ln ipS, eix, eidv, cg, hIn, d1, d2]
        repeat' (first | (exfalso; omega) | (with_reducible refine zb_in ?_ ?_ ?_ ?_; omega; omega; omega) | (with_reducible refine zb_le ?_ ?_ ?_ ?_ (fun _ => ?_) (fun _ => ?_); omega; omega; omega; omega) | (with_reducible refine zb_lt ?_ ?_ ?_ ?_ (fun _ => ?_) (fun _ => ?_); omega; omega; omega; omega) | (with_reducible refine zb_eq ?_ ?_ ?_ ?_ (fun _ => ?_) (fun _ => ?_); omega; omega; omega; omega) | (with_reducible refine zb_leL ?_ ?_ ?_ ?_ (fun _ => ?_) (fun _ => ?_); omega; omega; omega; omega) | (with_reducible refine zb_ltL ?_ ?_ ?_ ?_ (fun _ => ?_) (fun _ => ?_); omega; omega; omega; omega) | (with_reducible refine zb_eqL ?_ ?_ ?_ ?_ (fun _ => ?_) (fun _ => ?_); omega; omega; omega; omega) | (with_reducible refine zb_nz ?_ ?_ ?_ ?_; omega; omega; omega) | (with_reducible refine zb_nzL ?_ ?_ ?_ ?_; omega; omega; omega) | with_reducible refine zb_ite ?_ | with_reducible refine zb_iteL ?_ | ((with_reducible intro y hy); subst hy; try simp only [zl32, zl64, i32_add, i32_sub, i32_mul, i32_neg, i64_add, i64_sub, i64_mul, i64_neg, cv_gi, cv_gw, cv_ga, cv_gl, cv_pi, cv_pw, cv_pa, cv_pl, zf_S, zf_i, zf_l, mz1, mz2, mz3, mz4, zr_ii, zr_iw, zr_ia, zr_il, zr_wi, zr_ww, zr_wa, zr_wl, zr_ai, zr_aw, zr_aa, zr_al, zr_li, zr_lw, zr_la, zr_ll, zw_ii, zw_ww, zw_aa, zw_ll, reduceIte, Nat.reduceEqDiff, if_true, if_false]) | with_reducible refine zb_o1 ?_ | with_reducible refine zb_o2 ?_ | with_reducible refine zb_o3 ?_ | with_reducible refine zb_o4 ?_ | with_reducible refine zb_tr ?_ | exact trivial | with_reducible refine zb_T ?_ | with_reducible refine zb_sp ?_ ?_)
        all_goals (try exact i32_in (by omega) (by omega) (by omega))
        refine ihn S kc nc (by omega) (by omega) hF ?_
        have : resid k = 0 := by
          rw [hres]
          dsimp only
          rw [hI, if_neg (fun h => c2 (by have := h.2; rw [Int.mul_comm (k : Int)] at this; omega))]
        rw [irS, zrem_z k resid this]
