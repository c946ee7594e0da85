/-! CLASS 35: points: what the loop finds -/
set_option maxRecDepth 100000
theorem zB_nil {M : Int} {pa : zP} {a : Nat → Int} (h : ∀ x, a x = 0) : ∀ i b x, zB M pa a i b x = 0 := by
  intro i
  induction i with
  | zero => intro b x; exact h x
  | succ i ih =>
    intro b x
    unfold zB
    exact zpart_topN (N := 0) (fun m _ => ih _ m) (Nat.zero_le _)
theorem zprt_nil {M : Int} {pa : zP} {f : Nat → Int} {i : Nat} (hv : zPv M pa) (h : degN (zprt M pa f i) 9 < 0) : ∀ x, zprt M pa f i x = 0 := by
  intro x
  have hD := hv.2.2.2.1
  by_cases c : x < 9
  · exact degN_hi _ 9 x (by omega) c
  · exact zpart_hi (by omega)
theorem zpts_neg {M p : Int} {pa : zP} {f : Nat → Int} {m i : Nat} (hv : zPv M pa) (hm : m ≤ 8) (h : degN (zprt M pa f i) 9 < 0) : zpts M p pa f m i = -1 := by
  have hb := zpts_bd (p := p) (f := f) hv hm i
  by_cases c : 0 ≤ zpts M p pa f m i
  · have h2 := (zpts_on hv c).2.2.2
    have := zbs_nz (M := M) (p := p) (pa := pa) (a := zprt M pa f i) _ h2
    exact absurd (zB_nil (zprt_nil hv h) _ _ 0) this
  · omega
theorem zpts_gt {M p : Int} {pa : zP} {f : Nat → Int} {m i : Nat} (h : m < i) : zpts M p pa f m i = -1 := by
  unfold zpts
  rw [if_neg (by omega)]
theorem zpts_pos {M p : Int} (hM : 0 < M) {pa : zP} {f : Nat → Int} (hf : zred M 9 f) {m i : Nat} (hv : zPv M pa) (hi : i ≤ m) (h : 0 ≤ degN (zprt M pa f i) 9) : zpts M p pa f m i = (zhd M p pa (zprt M pa f i)).1 + i * zlift pa ∧ 0 ≤ (zhd M p pa (zprt M pa f i)).1 ∧ ∃ x, x < 9 ∧ zprt M pa f i x ≠ 0 := by
  have hdl := degN_lt (zprt M pa f i) 9
  obtain ⟨L, hL⟩ : ∃ L : Nat, degN (zprt M pa f i) 9 = L := ⟨(degN (zprt M pa f i) 9).toNat, by omega⟩
  have hl0 := degN_at _ 9 L hL
  have hz := zhd_nz (p := p) hM hv (zprt_red hM hf i) (fun x hx => zpart_hi hx) (show L < 9 by omega) hl0
  have hD : i * zpD pa (zpL pa) < 9 := by
    rcases Nat.lt_or_ge (i * zpD pa (zpL pa)) 9 with c | c
    · exact c
    · exact absurd (zpart_top (fun m hm => by unfold zwn; rw [if_neg (by omega)]) (by omega)) hl0
  refine ⟨?_, hz, L, by omega, hl0⟩
  unfold zpts
  rw [if_pos ⟨hi, hD⟩, if_neg (by omega)]
def zfs (pts : Nat → Int) : Nat → Int
  | 0 => -1
  | i + 1 => if 0 ≤ zfs pts i then zfs pts i else if 0 ≤ pts i then (i : Int) else -1
theorem zfs_lt (pts : Nat → Int) : ∀ i : Nat, -1 ≤ zfs pts i ∧ zfs pts i < i ∧ (∀ j : Nat, ((j : Int) < zfs pts i ∨ (zfs pts i < 0 ∧ j < i)) → pts j < 0) ∧ (0 ≤ zfs pts i → 0 ≤ pts (zfs pts i).toNat) := by
  intro i
  induction i with
  | zero =>
    have e : zfs pts 0 = -1 := rfl
    rw [e]
    exact ⟨by omega, by omega, fun j h => by omega, fun h => by omega⟩
  | succ i ih =>
    obtain ⟨h1, h2, h3, h4⟩ := ih
    unfold zfs
    by_cases c : 0 ≤ zfs pts i
    · rw [if_pos c]
      exact ⟨h1, by omega, fun j h => h3 j (by omega), h4⟩
    · rw [if_neg c]
      by_cases c2 : 0 ≤ pts i
      · rw [if_pos c2]
        refine ⟨by omega, by omega, fun j h => h3 j (by omega), fun _ => ?_⟩
        rw [Int.toNat_natCast]
        exact c2
      · rw [if_neg c2]
        refine ⟨by omega, by omega, fun j h => ?_, fun h => by omega⟩
        by_cases cj : j = i
        · rw [cj]; omega
        · exact h3 j (by omega)
theorem zzs_lo (pts : Nat → Int) (m : Nat) : ∀ c, c ≤ m + 1 → ∀ j, m + 1 - c ≤ j → j < zzs pts m c → pts j < 0 := by
  intro c
  induction c with
  | zero =>
    intro _ j h1 h2
    have : zzs pts m 0 = m := rfl
    omega
  | succ c ih =>
    intro hc j h1 h2
    unfold zzs at h2
    by_cases c1 : pts (m - c) < 0
    · rw [if_pos c1] at h2
      by_cases cj : j = m - c
      · rw [cj]; exact c1
      · exact ih (by omega) j (by omega) h2
    · rw [if_neg c1] at h2
      omega
theorem zfs_fst {pts : Nat → Int} {m : Nat} (hm : m ≤ 8) (hhi : ∀ j, m < j → pts j < 0) : zfs pts 9 = if pts (zfst pts m) < 0 then -1 else (zfst pts m : Int) := by
  obtain ⟨h1, h2, h3, h4⟩ := zfs_lt pts 9
  have hle := zzs_le pts m (m + 1)
  have hlo := zzs_lo pts m (m + 1) (Nat.le_refl _)
  have hle : zfst pts m ≤ m := hle
  have hlo : ∀ j, j < zfst pts m → pts j < 0 := fun j hj => hlo j (by omega) hj
  by_cases c : pts (zfst pts m) < 0
  · rw [if_pos c]
    have e := zfst_none c
    rcases Int.lt_or_le (zfs pts 9) 0 with q | q
    · omega
    · have h5 := h4 q
      have h6 : ¬ m < (zfs pts 9).toNat := fun h => by have := hhi _ h; omega
      by_cases c6 : (zfs pts 9).toNat < m
      · have := hlo _ (by omega : (zfs pts 9).toNat < zfst pts m)
        omega
      · rw [e] at c
        rw [show (zfs pts 9).toNat = m from by omega] at h5
        omega
  · rw [if_neg c]
    rcases Int.lt_or_le (zfs pts 9) 0 with q | q
    · have := h3 (zfst pts m) (Or.inr ⟨q, by omega⟩)
      omega
    · have h5 := h4 q
      rcases Int.lt_trichotomy (zfs pts 9) (zfst pts m) with e | e | e
      · have := hlo (zfs pts 9).toNat (by omega)
        omega
      · exact e
      · have := h3 (zfst pts m) (Or.inl (by omega))
        omega
