/-! PURE 25: the tree that both sides grow, its bounds -/
set_option maxRecDepth 100000
theorem zpts_v {M p : Int} {pa : zP} {f : Nat → Int} {m i : Nat} (h : 0 ≤ zpts M p pa f m i) : zpts M p pa f m i = (zhd M p pa (zprt M pa f i)).1 + i * zlift pa ∧ 0 ≤ (zhd M p pa (zprt M pa f i)).1 := by
  unfold zpts at h ⊢
  by_cases c : i ≤ m ∧ i * zpD pa (zpL pa) < 9
  · rw [if_pos c] at h ⊢
    by_cases c2 : (zhd M p pa (zprt M pa f i)).1 < 0
    · rw [if_pos c2] at h
      omega
    · rw [if_neg c2]
      exact ⟨rfl, by omega⟩
  · rw [if_neg c] at h
    omega
theorem zsl_u {M p : Int} {pa : zP} (hv : zPv M pa) (hu : zPu pa) {f : Nat → Int} {m a b : Nat} (hab : a < b) (h1 : 0 ≤ zpts M p pa f m b) (h2 : zpts M p pa f m b < zpts M p pa f m a) : 0 ≤ zsl pa (zpts M p pa f m) a b ∧ zsl pa (zpts M p pa f m) a b ≤ 30 * ((zpD pa (zpL pa) : Int) * zpD pa (zpL pa)) := by
  obtain ⟨g1, g2, g3, g4, g5, g6, g7⟩ := zgd_ok hab h2
  have va := zpts_v (M := M) (p := p) (pa := pa) (f := f) (m := m) (i := a) (by omega)
  have vb := zpts_v (M := M) (p := p) (pa := pa) (f := f) (m := m) (i := b) h1
  have ua := zhd_u (p := p) hv hu (zprt M pa f a)
  have hl := zlift_bd hv
  have e0 : 0 ≤ zsl pa (zpts M p pa f m) a b := by
    have : 0 ≤ (zrm (zpts M p pa f m) a b : Int) * zlift pa := Int.mul_nonneg (by omega) hl.1
    unfold zsl
    omega
  refine ⟨e0, ?_⟩
  have e1 : (zgd (zpts M p pa f m) a b : Int) * zsl pa (zpts M p pa f m) a b = (zhd M p pa (zprt M pa f a)).1 - (zhd M p pa (zprt M pa f b)).1 := by
    unfold zsl
    rw [Int.mul_add, g5, ← Int.mul_assoc, ← Int.natCast_mul, g3, va.1, vb.1, show ((b - a : Nat) : Int) = (b : Int) - a by omega, Int.sub_mul]
    omega
  have e2 : zsl pa (zpts M p pa f m) a b ≤ (zgd (zpts M p pa f m) a b : Int) * zsl pa (zpts M p pa f m) a b := by
    have := Int.mul_le_mul_of_nonneg_right (show (1 : Int) ≤ (zgd (zpts M p pa f m) a b : Int) by omega) e0
    omega
  omega
abbrev zT : Type := List (zP × Nat) × List zL
def zroot (p : Int) (fa : zF) : Int := (p - fa.2.2 0) % p
/-- what a factor of a side's residues is: a leaf, or a knot that grows (by G) -/
noncomputable def zch (G : zP → Nat → zT → zT) (M p : Int) (pa : zP) (σ : zS) (T : zT) (fa : zF) : zT :=
  if fa.2.1 = 1 then (T.1, T.2 ++ [(0, ((zpD pa (zpL pa) * σ.2.2.2.2.1 : Nat) : Int), (fa.1 : Int), ((zpD pa (zpL pa) * σ.2.2.2.2.1 : Nat) : Int) * fa.1, (zpA pa (zpL pa) : Int))])
  else if 1 < fa.1 then (T.1, T.2 ++ [(2, 0, 0, (fa.1 : Int) * fa.2.1 * ((zpD pa (zpL pa) * σ.2.2.2.2.1 : Nat) : Int), (zpA pa (zpL pa) : Int))])
  else if zpL pa = 6 then (T.1, T.2 ++ [(3, 0, 0, (fa.2.1 : Int) * ((zpD pa (zpL pa) * σ.2.2.2.2.1 : Nat) : Int), (zpA pa (zpL pa) : Int))])
  else G (zext pa T.1.length (znk M p pa σ.2.2.2.2.1 σ.2.2.2.2.2.2.1 (zroot p fa)) σ.2.2.2.2.1 σ.2.2.2.2.2.1 (zroot p fa) σ.2.2.2.2.2.2.1) fa.2.1 T
noncomputable def zsd (G : zP → Nat → zT → zT) (M p : Int) (f : Nat → Int) (pa : zP) (m : Nat) (T : zT) (x : Nat × Nat) : zT :=
  (zFc p (zside M p pa f (zpts M p pa f m) x).2.2.2.2.2.2.2).foldl (zch G M p pa (zside M p pa f (zpts M p pa f m) x)) T
def zst0 (M p : Int) (f : Nat → Int) (pa : zP) (m : Nat) (T : zT) : zT := (T.1 ++ [(pa, m)], T.2 ++ zleaf0 pa (zfst (zpts M p pa f m) m) (zpA pa (zpL pa)))
noncomputable def zGk (M p : Int) (f : Nat → Int) : Nat → zP → Nat → zT → zT
  | 0, _, _, T => T
  | d + 1, pa, m, T => (zhull (zpts M p pa f m) m).foldl (zsd (zGk M p f d) M p f pa m) (zst0 M p f pa m T)
/-- a factor of the polynomial itself -/
noncomputable def ztf (M p : Int) (f : Nat → Int) (T : zT) (fa : zF) : zT :=
  if fa.2.1 = 1 then (T.1, T.2 ++ [(0, 1, (fa.1 : Int), (fa.1 : Int), -2)])
  else if fa.1 = 1 then zGk M p f 6 (ztop T.1.length (fun k => if k = 0 then (-zroot p fa) % M else if k = 1 then 1 else 0)) fa.2.1 T
  else (T.1, T.2 ++ [(2, 0, 0, (fa.1 : Int) * fa.2.1, -2)])
noncomputable def zTree (M p : Int) (f : Nat → Int) : zT := (zFc p (fun k => f k % p)).foldl (ztf M p f) ([], [])
def zso (M p : Int) (f : Nat → Int) : List (zP × Nat) → Nat
  | [] => 0
  | x :: xs => (zhull (zpts M p x.1 f x.2) x.2).length + zso M p f xs
theorem zso_app (M p : Int) (f : Nat → Int) (xs ys : List (zP × Nat)) : zso M p f (xs ++ ys) = zso M p f xs + zso M p f ys := by
  induction xs with
  | nil => rw [List.nil_append, show zso M p f [] = 0 from rfl, Nat.zero_add]
  | cons x xs ih =>
    rw [List.cons_append]
    show _ + zso M p f (xs ++ ys) = _ + zso M p f xs + zso M p f ys
    rw [ih, Nat.add_assoc]
/-- what a part of the tree may take: budget b (degrees), d levels below -/
def zBd (M p : Int) (f : Nat → Int) (b d : Nat) (T T' : zT) : Prop := 2 * T'.1.length ≤ 2 * T.1.length + b * d ∧ zso M p f T'.1 ≤ zso M p f T.1 + b * d ∧ T'.2.length ≤ T.2.length + b
theorem zBd.refl (M p : Int) (f : Nat → Int) (b d : Nat) (T : zT) : zBd M p f b d T T := ⟨by omega, by omega, by omega⟩
theorem zBd.trans {M p : Int} {f : Nat → Int} {b c d : Nat} {T T' T'' : zT} (h : zBd M p f b d T T') (h' : zBd M p f c d T' T'') : zBd M p f (b + c) d T T'' := by
  obtain ⟨h1, h2, h3⟩ := h
  obtain ⟨q1, q2, q3⟩ := h'
  refine ⟨?_, ?_, ?_⟩
  · rw [Nat.add_mul]; omega
  · rw [Nat.add_mul]; omega
  · omega
theorem zBd.mono {M p : Int} {f : Nat → Int} {b c d e : Nat} {T T' : zT} (h : zBd M p f b d T T') (hb : b ≤ c) (hd : d ≤ e) : zBd M p f c e T T' := by
  obtain ⟨h1, h2, h3⟩ := h
  have : b * d ≤ c * e := Nat.mul_le_mul hb hd
  exact ⟨by omega, by omega, by omega⟩
/-- corners of the border, whether there is one or not -/
theorem zhull_ok {pts : Nat → Int} {m : Nat} : (∀ x, x ∈ zhull pts m → zfst pts m ≤ x.1 ∧ x.1 < x.2 ∧ x.2 ≤ m ∧ pts x.2 < pts x.1 ∧ 0 ≤ pts x.2) ∧ (zhull pts m).length + zfst pts m ≤ m := by
  have hzm : zfst pts m ≤ m := zzs_le pts m (m + 1)
  unfold zhull
  by_cases c : pts (zfst pts m) < 0
  · rw [if_pos c]
    exact ⟨fun x hx => (by cases hx), by rw [List.length_nil]; omega⟩
  · rw [if_neg c]
    have hl := zlst_ok pts (zfst pts m) (by omega) (m + 1 - zfst pts m)
    have hlm : zlow pts (zfst pts m) m ≤ m := by
      have := hl.2.1
      unfold zlow
      omega
    have e := zhl_ok (pts := pts) (z := zfst pts m) (m := m) (by omega) hzm 9 (zfst pts m) (Nat.le_refl _) hl.1 (by omega)
    refine ⟨fun x hx => ?_, by have := e.2; omega⟩
    have := e.1 x hx
    omega
/-- widths of sides -/
def zwd : List (Nat × Nat) → Nat
  | [] => 0
  | x :: xs => (x.2 - x.1) + zwd xs
theorem zhl_wd {pts : Nat → Int} {z m : Nat} (hz : 0 ≤ pts z) (hzm : z ≤ m) : ∀ (n a : Nat), z ≤ a → a ≤ zlow pts z m → 0 ≤ pts a → zwd (zhl pts (zlow pts z m) n a) + a ≤ zlow pts z m := by
  have hl := zlst_ok pts z hz (m + 1 - z)
  intro n
  induction n with
  | zero => intro a _ h2 _; unfold zhl zwd; omega
  | succ n ih =>
    intro a h1 h2 h3
    unfold zhl
    by_cases c : a < zlow pts z m
    · rw [if_pos c]
      have hlt : pts (zlow pts z m) < pts a := (hl.2.2.2 a h1 (by have := hl.2.1; unfold zlow at c; omega) h3).2 c
      obtain ⟨b, e, b1, b2, b3, b4⟩ := znc_fall c hl.2.2.1 hlt
      rw [e, Int.toNat_natCast]
      have r := ih b (by omega) b2 b3
      show (b - a) + zwd _ + a ≤ _
      omega
    · rw [if_neg c]
      show 0 + a ≤ _
      omega
theorem zhull_wd {pts : Nat → Int} {m : Nat} : zwd (zhull pts m) + zfst pts m ≤ m := by
  have hzm : zfst pts m ≤ m := zzs_le pts m (m + 1)
  unfold zhull
  by_cases c : pts (zfst pts m) < 0
  · rw [if_pos c]
    show 0 + _ ≤ _
    omega
  · rw [if_neg c]
    have hl := zlst_ok pts (zfst pts m) (by omega) (m + 1 - zfst pts m)
    have hlm : zlow pts (zfst pts m) m ≤ m := by
      have := hl.2.1
      unfold zlow
      omega
    have e := zhl_wd (pts := pts) (z := zfst pts m) (m := m) (by omega) hzm 9 (zfst pts m) (Nat.le_refl _) hl.1 (by omega)
    omega
def zGood (M p : Int) (pa : zP) : Prop := zPv M pa ∧ zPw p pa ∧ zPu pa
/-- residues have no more degree than the side -/
theorem zside_deg {M p : Int} {pa : zP} {f : Nat → Int} {m : Nat} {x : Nat × Nat} (h : ∀ k, zgd (zpts M p pa f m) x.1 x.2 < k → (zside M p pa f (zpts M p pa f m) x).2.2.2.2.2.2.2 k = 0) : (degN (zside M p pa f (zpts M p pa f m) x).2.2.2.2.2.2.2 9).toNat ≤ zgd (zpts M p pa f m) x.1 x.2 := by
  have hd := degN_lt (zside M p pa f (zpts M p pa f m) x).2.2.2.2.2.2.2 9
  rcases Int.lt_or_le (degN (zside M p pa f (zpts M p pa f m) x).2.2.2.2.2.2.2 9) 0 with q | q
  · omega
  · obtain ⟨L, hL⟩ : ∃ L : Nat, degN (zside M p pa f (zpts M p pa f m) x).2.2.2.2.2.2.2 9 = (L : Int) := ⟨(degN (zside M p pa f (zpts M p pa f m) x).2.2.2.2.2.2.2 9).toNat, by omega⟩
    have hl0 := degN_at _ 9 L hL
    rw [hL, Int.toNat_natCast]
    rcases Nat.lt_or_ge (zgd (zpts M p pa f m) x.1 x.2) L with c | c
    · exact absurd (h L c) hl0
    · exact c
/-- a side's child is a good way -/
theorem zchild_good {M p : Int} (hp : zpr p) (hM : 0 < M) {pa : zP} (hg : zGood M p pa) (hL : zpL pa < 6) {f : Nat → Int} {m : Nat} (hm8 : m ≤ 8) {x : Nat × Nat} (hlt : x.1 < x.2) (h2 : 0 ≤ zpts M p pa f m x.2) (h1 : zpts M p pa f m x.2 < zpts M p pa f m x.1) (n : Nat) {key : Nat → Int} (hk : zred M 9 key) {root : Int} (hr : 0 < root ∧ root < p) (h4 : zpD pa (zpL pa) * zrm (zpts M p pa f m) x.1 x.2 ≤ 4) : zGood M p (zext pa n key (zrm (zpts M p pa f m) x.1 x.2) (zsl pa (zpts M p pa f m) x.1 x.2) root (zvm pa (zsl pa (zpts M p pa f m) x.1 x.2))) := by
  obtain ⟨hv, hw, hu⟩ := hg
  have hL1 := hv.1
  have hD := hv.D (k := zpL pa) hL1 (Nat.le_refl _)
  obtain ⟨g1, g2, g3, g4, g5, g6, g7⟩ := zgd_ok hlt h1
  obtain ⟨s1, s2⟩ := zsl_u (p := p) hv hu (f := f) (m := m) hlt h2 h1
  have s3 : (zpD pa (zpL pa) : Int) * zpD pa (zpL pa) ≤ 4 * 4 := Int.mul_le_mul (by omega) (by omega) (by omega) (by omega)
  have hr4 : zrm (zpts M p pa f m) x.1 x.2 ≤ 4 := by
    have : zrm (zpts M p pa f m) x.1 x.2 ≤ zpD pa (zpL pa) * zrm (zpts M p pa f m) x.1 x.2 := Nat.le_mul_of_pos_left _ hD.1
    omega
  obtain ⟨F, hF⟩ : ∃ F : Nat, (zpts M p pa f m x.1 - zpts M p pa f m x.2) = (F : Int) := ⟨(zpts M p pa f m x.1 - zpts M p pa f m x.2).toNat, by omega⟩
  refine ⟨zext_v hv hL hk g4 h4 ⟨s1, by omega⟩, zext_w hw n key ?_ hr ?_ (fun q q1 q2 => ?_), zext_u hu hL1 n key ?_⟩
  · refine zco_ok (l := zlift pa) (F := F / zgd (zpts M p pa f m) x.1 x.2) g4 hr4 ?_ ?_
    · have hgF : zgd (zpts M p pa f m) x.1 x.2 = Nat.gcd (x.2 - x.1) F := by
        unfold zgd
        rw [hF, Int.toNat_natCast]
      unfold zrm
      rw [hgF]
      exact Nat.gcd_div_gcd_div_gcd_of_pos_left (by omega)
    · unfold zsl
      rw [hF]
      rfl
  · have b := zvn_bd hv hw (v := zsl pa (zpts M p pa f m) x.1 x.2) (by omega) (by omega) (zpL pa - 1) (by omega)
    have hz : zvm pa (zsl pa (zpts M p pa f m) x.1 x.2) 0 = zvn pa (zsl pa (zpts M p pa f m) x.1 x.2) (zpL pa - 1) := by
      unfold zvm
      rw [if_pos rfl]
    rw [hz]
    omega
  · have b := zvm_bd hv hw (zsl pa (zpts M p pa f m) x.1 x.2) q q1
    refine ⟨b.1, b.2, fun hq => ?_⟩
    unfold zvm
    rw [if_neg (by omega), if_neg (by omega)]
  · have s4 : (zpD pa (zpL pa) : Int) * zpD pa (zpL pa) ≤ ((zpD pa (zpL pa) * (zpD pa (zpL pa) * zrm (zpts M p pa f m) x.1 x.2) : Nat) : Int) := by
      have : zpD pa (zpL pa) * zpD pa (zpL pa) ≤ zpD pa (zpL pa) * (zpD pa (zpL pa) * zrm (zpts M p pa f m) x.1 x.2) := Nat.mul_le_mul_left _ (Nat.le_mul_of_pos_right _ g4)
      rw [← Int.natCast_mul]
      omega
    omega
