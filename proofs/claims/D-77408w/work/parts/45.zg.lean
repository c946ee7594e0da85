/-! PURE 16: borders -/
set_option maxRecDepth 100000
def znc (pts : Nat → Int) (a : Nat) : Nat → Int
  | 0 => -1
  | c + 1 => if pts (a + 1 + c) < 0 then znc pts a c else if znc pts a c < 0 ∨ (pts (a + 1 + c) - pts a) * (znc pts a c - a) ≤ (pts (znc pts a c).toNat - pts a) * (((a + 1 + c : Nat) : Int) - a) then ((a + 1 + c : Nat) : Int) else znc pts a c
theorem ze_trn {w1 w2 w3 d1 d2 d3 : Int} (h2 : 0 < d2) (h1 : 0 ≤ d1) (h3 : 0 ≤ d3) (a : w1 * d2 ≤ w2 * d1) (b : w2 * d3 ≤ w3 * d2) : w1 * d3 ≤ w3 * d1 := by
  have a2 := Int.mul_le_mul_of_nonneg_right a h3
  have b2 := Int.mul_le_mul_of_nonneg_right b h1
  have e1 : w1 * d2 * d3 = w1 * d3 * d2 := by rw [Int.mul_assoc, Int.mul_comm d2, ← Int.mul_assoc]
  have e2 : w2 * d1 * d3 = w2 * d3 * d1 := by rw [Int.mul_assoc, Int.mul_comm d1, ← Int.mul_assoc]
  have e3 : w3 * d2 * d1 = w3 * d1 * d2 := by rw [Int.mul_assoc, Int.mul_comm d2, ← Int.mul_assoc]
  rw [e1, e2] at a2
  rw [e3] at b2
  exact Int.le_of_mul_le_mul_right (Int.le_trans a2 b2) h2
theorem ze_trs {w1 w2 w3 d1 d2 d3 : Int} (h2 : 0 < d2) (h1 : 0 < d1) (h3 : 0 ≤ d3) (a : w1 * d2 ≤ w2 * d1) (b : w2 * d3 < w3 * d2) : w1 * d3 < w3 * d1 := by
  have a2 := Int.mul_le_mul_of_nonneg_right a h3
  have b2 := Int.mul_lt_mul_of_pos_right b h1
  have e1 : w1 * d2 * d3 = w1 * d3 * d2 := by rw [Int.mul_assoc, Int.mul_comm d2, ← Int.mul_assoc]
  have e2 : w2 * d1 * d3 = w2 * d3 * d1 := by rw [Int.mul_assoc, Int.mul_comm d1, ← Int.mul_assoc]
  have e3 : w3 * d2 * d1 = w3 * d1 * d2 := by rw [Int.mul_assoc, Int.mul_comm d2, ← Int.mul_assoc]
  rw [e1, e2] at a2
  rw [e3] at b2
  exact Int.lt_of_mul_lt_mul_right (Int.lt_of_le_of_lt a2 b2) (Int.le_of_lt h2)
/-- what the next corner is -/
theorem znc_ok (pts : Nat → Int) (a : Nat) : ∀ c : Nat, (znc pts a c = -1 ∧ ∀ j, a < j → j ≤ a + c → pts j < 0) ∨ ∃ b : Nat, znc pts a c = (b : Int) ∧ a < b ∧ b ≤ a + c ∧ 0 ≤ pts b ∧ ∀ j, a < j → j ≤ a + c → 0 ≤ pts j → (pts b - pts a) * ((j : Int) - a) ≤ (pts j - pts a) * ((b : Int) - a) ∧ (b < j → (pts b - pts a) * ((j : Int) - a) < (pts j - pts a) * ((b : Int) - a)) := by
  intro c
  induction c with
  | zero => exact Or.inl ⟨rfl, fun j h1 h2 => by omega⟩
  | succ c ih =>
    unfold znc
    by_cases c1 : pts (a + 1 + c) < 0
    · rw [if_pos c1]
      rcases ih with ⟨e, q⟩ | ⟨b, e, q1, q2, q3, q4⟩
      · refine Or.inl ⟨e, fun j h1 h2 => ?_⟩
        by_cases hj : j = a + 1 + c
        · rw [hj]; exact c1
        · exact q j h1 (by omega)
      · refine Or.inr ⟨b, e, q1, by omega, q3, fun j h1 h2 h3 => ?_⟩
        by_cases hj : j = a + 1 + c
        · rw [hj] at h3
          omega
        · exact q4 j h1 (by omega) h3
    · rw [if_neg c1]
      rcases ih with ⟨e, q⟩ | ⟨b, e, q1, q2, q3, q4⟩
      · rw [if_pos (Or.inl (by omega))]
        refine Or.inr ⟨a + 1 + c, rfl, by omega, by omega, by omega, fun j h1 h2 h3 => ?_⟩
        by_cases hj : j = a + 1 + c
        · rw [hj]
          exact ⟨Int.le_refl _, fun h => by omega⟩
        · have := q j h1 (by omega)
          omega
      · rw [e, Int.toNat_natCast]
        by_cases c2 : (b : Int) < 0 ∨ (pts (a + 1 + c) - pts a) * ((b : Int) - a) ≤ (pts b - pts a) * (((a + 1 + c : Nat) : Int) - a)
        · rw [if_pos c2]
          have c3 : (pts (a + 1 + c) - pts a) * ((b : Int) - a) ≤ (pts b - pts a) * (((a + 1 + c : Nat) : Int) - a) := by
            rcases c2 with h | h
            · omega
            · exact h
          refine Or.inr ⟨a + 1 + c, rfl, by omega, by omega, by omega, fun j h1 h2 h3 => ⟨?_, fun h => by omega⟩⟩
          by_cases hj : j = a + 1 + c
          · rw [hj]
            exact Int.le_refl _
          · exact ze_trn (by omega) (by omega) (by omega) c3 (q4 j h1 (by omega) h3).1
        · rw [if_neg c2]
          have c3 : (pts b - pts a) * (((a + 1 + c : Nat) : Int) - a) < (pts (a + 1 + c) - pts a) * ((b : Int) - a) := by
            rcases Int.lt_or_le ((pts b - pts a) * (((a + 1 + c : Nat) : Int) - a)) ((pts (a + 1 + c) - pts a) * ((b : Int) - a)) with h | h
            · exact h
            · exact absurd (Or.inr h) c2
          refine Or.inr ⟨b, rfl, q1, by omega, q3, fun j h1 h2 h3 => ?_⟩
          by_cases hj : j = a + 1 + c
          · rw [hj]
            exact ⟨Int.le_of_lt c3, fun _ => c3⟩
          · exact q4 j h1 (by omega) h3
def zlst (pts : Nat → Int) (z : Nat) : Nat → Nat
  | 0 => z
  | c + 1 => if pts (z + c) < 0 then zlst pts z c else if pts (zlst pts z c) < 0 ∨ pts (z + c) < pts (zlst pts z c) then z + c else zlst pts z c
/-- the lowest, the first of such -/
theorem zlst_ok (pts : Nat → Int) (z : Nat) (hz : 0 ≤ pts z) : ∀ c : Nat, z ≤ zlst pts z c ∧ (zlst pts z c ≤ z + (c - 1)) ∧ 0 ≤ pts (zlst pts z c) ∧ ∀ j, z ≤ j → j < z + c → 0 ≤ pts j → pts (zlst pts z c) ≤ pts j ∧ (j < zlst pts z c → pts (zlst pts z c) < pts j) := by
  intro c
  induction c with
  | zero => exact ⟨Nat.le_refl _, by unfold zlst; omega, hz, fun j h1 h2 => by omega⟩
  | succ c ih =>
    obtain ⟨i1, i2, i3, i4⟩ := ih
    unfold zlst
    by_cases c1 : pts (z + c) < 0
    · rw [if_pos c1]
      refine ⟨i1, by omega, i3, fun j h1 h2 h3 => ?_⟩
      by_cases hj : j = z + c
      · rw [hj] at h3
        omega
      · exact i4 j h1 (by omega) h3
    · rw [if_neg c1]
      by_cases c2 : pts (zlst pts z c) < 0 ∨ pts (z + c) < pts (zlst pts z c)
      · rw [if_pos c2]
        refine ⟨by omega, by omega, by omega, fun j h1 h2 h3 => ?_⟩
        by_cases hj : j = z + c
        · rw [hj]
          exact ⟨Int.le_refl _, fun h => by omega⟩
        · have := i4 j h1 (by omega) h3
          exact ⟨by omega, fun _ => by omega⟩
      · rw [if_neg c2]
        refine ⟨i1, by omega, i3, fun j h1 h2 h3 => ?_⟩
        by_cases hj : j = z + c
        · rw [hj]
          refine ⟨by omega, fun h => ?_⟩
          omega
        · exact i4 j h1 (by omega) h3
def zlow (pts : Nat → Int) (z m : Nat) : Nat := zlst pts z (m + 1 - z)
/-- from a corner above the lowest the border falls -/
theorem znc_fall {pts : Nat → Int} {a l : Nat} (hl : a < l) (h1 : 0 ≤ pts l) (h2 : pts l < pts a) : ∃ b : Nat, znc pts a (l - a) = (b : Int) ∧ a < b ∧ b ≤ l ∧ 0 ≤ pts b ∧ pts b < pts a := by
  rcases znc_ok pts a (l - a) with ⟨_, q⟩ | ⟨b, e, q1, q2, q3, q4⟩
  · have := q l hl (by omega)
    omega
  · refine ⟨b, e, q1, by omega, q3, ?_⟩
    have q := (q4 l hl (by omega) h1).1
    rcases Int.lt_or_le (pts b) (pts a) with h | h
    · exact h
    · have a1 : 0 ≤ (pts b - pts a) * ((l : Int) - a) := Int.mul_nonneg (by omega) (by omega)
      have a2 : (pts l - pts a) * ((b : Int) - a) < 0 := Int.mul_neg_of_neg_of_pos (by omega) (by omega)
      omega
def zhl (pts : Nat → Int) (l : Nat) : Nat → Nat → List (Nat × Nat)
  | 0, _ => []
  | n + 1, a => if a < l then (a, (znc pts a (l - a)).toNat) :: zhl pts l n (znc pts a (l - a)).toNat else []
def zixa (pts : Nat → Int) (a b : Nat) (low : Int) : Nat → Int
  | 0 => 0
  | c + 1 => zixa pts a b low c + (if pts a - ((pts a - pts b) * (((max a 1 + c : Nat) : Int) - a) + (b : Int) - a - 1) / ((b : Int) - a) - low ≤ 0 then 0 else pts a - ((pts a - pts b) * (((max a 1 + c : Nat) : Int) - a) + (b : Int) - a - 1) / ((b : Int) - a) - low)
def zix (pts : Nat → Int) (low : Int) (x : Nat × Nat) : Int := zixa pts x.1 x.2 low (x.2 - max x.1 1)
def zixs (pts : Nat → Int) (low : Int) : List (Nat × Nat) → Int
  | [] => 0
  | x :: xs => zix pts low x + zixs pts low xs
/-- a side: from, to, fall, degree, ramification, slope, monomial, residues -/
abbrev zS : Type := Nat × Nat × Int × Nat × Nat × Int × (Nat → Int) × (Nat → Int)
def zgd (pts : Nat → Int) (a b : Nat) : Nat := Nat.gcd (b - a) (pts a - pts b).toNat
def zrm (pts : Nat → Int) (a b : Nat) : Nat := (b - a) / zgd pts a b
def zsl (pa : zP) (pts : Nat → Int) (a b : Nat) : Int := (zrm pts a b : Int) * zlift pa + (pts a - pts b) / (zgd pts a b : Int)
def zside (M p : Int) (pa : zP) (f : Nat → Int) (pts : Nat → Int) (x : Nat × Nat) : zS :=
  (x.1, x.2, pts x.1 - pts x.2, zgd pts x.1 x.2, zrm pts x.1 x.2, zsl pa pts x.1 x.2, zvm pa (zsl pa pts x.1 x.2), fun k => if k ≤ zgd pts x.1 x.2 ∧ pts (x.1 + k * zrm pts x.1 x.2) = pts x.1 - k * ((pts x.1 - pts x.2) / (zgd pts x.1 x.2 : Int)) then zres M p pa f (zvm pa (zsl pa pts x.1 x.2)) (x.1 + k * zrm pts x.1 x.2) k else 0)
/-- the arrays hold a side -/
def zSA (t : tS) (s : Nat) (x : zS) : Prop := tga t 36 s = (x.1 : Int) ∧ tga t 37 s = (x.2.1 : Int) ∧ tga t 38 s = x.2.2.1 ∧ tga t 40 s = (x.2.2.2.1 : Int) ∧ tga t 39 s = (x.2.2.2.2.1 : Int) ∧ tga t 41 s = x.2.2.2.2.2.1 ∧ (∀ q, q < 7 → tga t 42 (7 * s + q) = x.2.2.2.2.2.2.1 q) ∧ ∀ k, k < 9 → tga t 43 (9 * s + k) = x.2.2.2.2.2.2.2 k
/-- the knot's points -/
def zPt (t : tS) (kn : Nat) (pts : Nat → Int) : Prop := kn < 40 ∧ ∀ i, i < 9 → tga t 31 (9 * kn + i) = pts i
def zpb (pts : Nat → Int) : Prop := ∀ i, -1 ≤ pts i ∧ pts i ≤ 300000
theorem sM_point0 (t : tS) (kn i : Nat) (pts : Nat → Int) (h : zPt t kn pts) (hi : i < 9) (Q : Int32 → Prop) (hq : Q (i32 (pts i))) : wM_point0 (cv t) (i32 kn) (i32 i) Q := by
  have h1 := h.1
  unfold wM_point0
  try simp only [zl32, zl64, i32_add, i32_sub, i32_mul, i32_neg, i64_add, i64_sub, i64_mul, i64_neg, cv_gi, cv_gw, cv_ga, cv_gl, cv_pi, cv_pw, cv_pa, cv_pl, zf_S, zf_i, zf_l, mz1, mz2, mz3, mz4]
  try simp (disch := omega) only [zi9, zi7, zi40, zi360, zikj, zijd, zi9o, zi7o, zip1, zip, zim1, i32_natN, ziL, zi_0, zi_1]
  rw [h.2 i hi]
  repeat' (first | (exfalso; omega) | (with_reducible refine zb_in ?_ ?_ ?_ ?_; omega; omega; omega) | (with_reducible refine zb_le ?_ ?_ ?_ ?_ (fun _ => ?_) (fun _ => ?_); omega; omega; omega; omega) | (with_reducible refine zb_lt ?_ ?_ ?_ ?_ (fun _ => ?_) (fun _ => ?_); omega; omega; omega; omega) | (with_reducible refine zb_eq ?_ ?_ ?_ ?_ (fun _ => ?_) (fun _ => ?_); omega; omega; omega; omega) | (with_reducible refine zb_leL ?_ ?_ ?_ ?_ (fun _ => ?_) (fun _ => ?_); omega; omega; omega; omega) | (with_reducible refine zb_ltL ?_ ?_ ?_ ?_ (fun _ => ?_) (fun _ => ?_); omega; omega; omega; omega) | (with_reducible refine zb_eqL ?_ ?_ ?_ ?_ (fun _ => ?_) (fun _ => ?_); omega; omega; omega; omega) | (with_reducible refine zb_nz ?_ ?_ ?_ ?_; omega; omega; omega) | (with_reducible refine zb_nzL ?_ ?_ ?_ ?_; omega; omega; omega) | with_reducible refine zb_ite ?_ | with_reducible refine zb_iteL ?_ | ((with_reducible intro y hy); subst hy; try simp only [zl32, zl64, i32_add, i32_sub, i32_mul, i32_neg, i64_add, i64_sub, i64_mul, i64_neg, cv_gi, cv_gw, cv_ga, cv_gl, cv_pi, cv_pw, cv_pa, cv_pl, zf_S, zf_i, zf_l, mz1, mz2, mz3, mz4, zr_ii, zr_iw, zr_ia, zr_il, zr_wi, zr_ww, zr_wa, zr_wl, zr_ai, zr_aw, zr_aa, zr_al, zr_li, zr_lw, zr_la, zr_ll, zw_ii, zw_ww, zw_aa, zw_ll, reduceIte, Nat.reduceEqDiff, if_true, if_false]) | with_reducible refine zb_o1 ?_ | with_reducible refine zb_o2 ?_ | with_reducible refine zb_o3 ?_ | with_reducible refine zb_o4 ?_ | with_reducible refine zb_tr ?_ | exact trivial | with_reducible refine zb_T ?_ | with_reducible refine zb_sp ?_ ?_)
  exact hq
theorem sM_nextCorner (t : tS) (kn a l : Nat) (pts : Nat → Int) (h : zPt t kn pts) (hb : zpb pts) (hal : a ≤ l) (hl : l < 9) (Q : Int32 → Prop) (hq : Q (i32 (znc pts a (l - a)))) : wM_nextCorner (cv t) (i32 kn) (i32 a) (i32 l) Q := by
  have S : ∀ n c : Nat, c + n = l - a → wM_nextCorner_l8 Q (cv t) (i32 kn) (i32 a) (i32 l) (n + 1) (i32 (znc pts a c)) (i32 (a + 1 + c : Nat)) := by
    intro n
    induction n with
    | zero =>
      intro c hc
      have hc : c = l - a := by omega
      subst hc
      rw [wM_nextCorner_l8]
      try simp only [zl32, zl64, i32_add, i32_sub, i32_mul, i32_neg, i64_add, i64_sub, i64_mul, i64_neg, cv_gi, cv_gw, cv_ga, cv_gl, cv_pi, cv_pw, cv_pa, cv_pl, zf_S, zf_i, zf_l, mz1, mz2, mz3, mz4]
      repeat' (first | (exfalso; omega) | (with_reducible refine zb_in ?_ ?_ ?_ ?_; omega; omega; omega) | (with_reducible refine zb_le ?_ ?_ ?_ ?_ (fun _ => ?_) (fun _ => ?_); omega; omega; omega; omega) | (with_reducible refine zb_lt ?_ ?_ ?_ ?_ (fun _ => ?_) (fun _ => ?_); omega; omega; omega; omega) | (with_reducible refine zb_eq ?_ ?_ ?_ ?_ (fun _ => ?_) (fun _ => ?_); omega; omega; omega; omega) | (with_reducible refine zb_leL ?_ ?_ ?_ ?_ (fun _ => ?_) (fun _ => ?_); omega; omega; omega; omega) | (with_reducible refine zb_ltL ?_ ?_ ?_ ?_ (fun _ => ?_) (fun _ => ?_); omega; omega; omega; omega) | (with_reducible refine zb_eqL ?_ ?_ ?_ ?_ (fun _ => ?_) (fun _ => ?_); omega; omega; omega; omega) | (with_reducible refine zb_nz ?_ ?_ ?_ ?_; omega; omega; omega) | (with_reducible refine zb_nzL ?_ ?_ ?_ ?_; omega; omega; omega) | with_reducible refine zb_ite ?_ | with_reducible refine zb_iteL ?_ | ((with_reducible intro y hy); subst hy; try simp only [zl32, zl64, i32_add, i32_sub, i32_mul, i32_neg, i64_add, i64_sub, i64_mul, i64_neg, cv_gi, cv_gw, cv_ga, cv_gl, cv_pi, cv_pw, cv_pa, cv_pl, zf_S, zf_i, zf_l, mz1, mz2, mz3, mz4, zr_ii, zr_iw, zr_ia, zr_il, zr_wi, zr_ww, zr_wa, zr_wl, zr_ai, zr_aw, zr_aa, zr_al, zr_li, zr_lw, zr_la, zr_ll, zw_ii, zw_ww, zw_aa, zw_ll, reduceIte, Nat.reduceEqDiff, if_true, if_false]) | with_reducible refine zb_o1 ?_ | with_reducible refine zb_o2 ?_ | with_reducible refine zb_o3 ?_ | with_reducible refine zb_o4 ?_ | with_reducible refine zb_tr ?_ | exact trivial | with_reducible refine zb_T ?_ | with_reducible refine zb_sp ?_ ?_)
      exact hq
    | succ n ih =>
      intro c hc
      have e := ih (c + 1) (by omega)
      have hok := znc_ok pts a c
      have bj := hb (a + 1 + c)
      have ba := hb a
      unfold znc at e
      have eI : ((a + 1 + c : Nat) : Int) + 1 = ((a + 1 + (c + 1) : Nat) : Int) := by omega
      rw [wM_nextCorner_l8]
      unfold wM_nextCorner_j74 wM_nextCorner_j79
      try simp only [zl32, zl64, i32_add, i32_sub, i32_mul, i32_neg, i64_add, i64_sub, i64_mul, i64_neg, cv_gi, cv_gw, cv_ga, cv_gl, cv_pi, cv_pw, cv_pa, cv_pl, zf_S, zf_i, zf_l, mz1, mz2, mz3, mz4]
      repeat' (first | (exfalso; omega) | (with_reducible refine zb_in ?_ ?_ ?_ ?_; omega; omega; omega) | (with_reducible refine zb_le ?_ ?_ ?_ ?_ (fun _ => ?_) (fun _ => ?_); omega; omega; omega; omega) | (with_reducible refine zb_lt ?_ ?_ ?_ ?_ (fun _ => ?_) (fun _ => ?_); omega; omega; omega; omega) | (with_reducible refine zb_eq ?_ ?_ ?_ ?_ (fun _ => ?_) (fun _ => ?_); omega; omega; omega; omega) | (with_reducible refine zb_leL ?_ ?_ ?_ ?_ (fun _ => ?_) (fun _ => ?_); omega; omega; omega; omega) | (with_reducible refine zb_ltL ?_ ?_ ?_ ?_ (fun _ => ?_) (fun _ => ?_); omega; omega; omega; omega) | (with_reducible refine zb_eqL ?_ ?_ ?_ ?_ (fun _ => ?_) (fun _ => ?_); omega; omega; omega; omega) | (with_reducible refine zb_nz ?_ ?_ ?_ ?_; omega; omega; omega) | (with_reducible refine zb_nzL ?_ ?_ ?_ ?_; omega; omega; omega) | with_reducible refine zb_ite ?_ | with_reducible refine zb_iteL ?_ | ((with_reducible intro y hy); subst hy; try simp only [zl32, zl64, i32_add, i32_sub, i32_mul, i32_neg, i64_add, i64_sub, i64_mul, i64_neg, cv_gi, cv_gw, cv_ga, cv_gl, cv_pi, cv_pw, cv_pa, cv_pl, zf_S, zf_i, zf_l, mz1, mz2, mz3, mz4, zr_ii, zr_iw, zr_ia, zr_il, zr_wi, zr_ww, zr_wa, zr_wl, zr_ai, zr_aw, zr_aa, zr_al, zr_li, zr_lw, zr_la, zr_ll, zw_ii, zw_ww, zw_aa, zw_ll, reduceIte, Nat.reduceEqDiff, if_true, if_false]) | with_reducible refine zb_o1 ?_ | with_reducible refine zb_o2 ?_ | with_reducible refine zb_o3 ?_ | with_reducible refine zb_o4 ?_ | with_reducible refine zb_tr ?_ | exact trivial | with_reducible refine zb_T ?_ | with_reducible refine zb_sp ?_ ?_)
      refine sM_point0 t kn _ pts h (by omega) _ ?_
      repeat' (first | (exfalso; omega) | (with_reducible refine zb_in ?_ ?_ ?_ ?_; omega; omega; omega) | (with_reducible refine zb_le ?_ ?_ ?_ ?_ (fun _ => ?_) (fun _ => ?_); omega; omega; omega; omega) | (with_reducible refine zb_lt ?_ ?_ ?_ ?_ (fun _ => ?_) (fun _ => ?_); omega; omega; omega; omega) | (with_reducible refine zb_eq ?_ ?_ ?_ ?_ (fun _ => ?_) (fun _ => ?_); omega; omega; omega; omega) | (with_reducible refine zb_leL ?_ ?_ ?_ ?_ (fun _ => ?_) (fun _ => ?_); omega; omega; omega; omega) | (with_reducible refine zb_ltL ?_ ?_ ?_ ?_ (fun _ => ?_) (fun _ => ?_); omega; omega; omega; omega) | (with_reducible refine zb_eqL ?_ ?_ ?_ ?_ (fun _ => ?_) (fun _ => ?_); omega; omega; omega; omega) | (with_reducible refine zb_nz ?_ ?_ ?_ ?_; omega; omega; omega) | (with_reducible refine zb_nzL ?_ ?_ ?_ ?_; omega; omega; omega) | with_reducible refine zb_ite ?_ | with_reducible refine zb_iteL ?_ | ((with_reducible intro y hy); subst hy; try simp only [zl32, zl64, i32_add, i32_sub, i32_mul, i32_neg, i64_add, i64_sub, i64_mul, i64_neg, cv_gi, cv_gw, cv_ga, cv_gl, cv_pi, cv_pw, cv_pa, cv_pl, zf_S, zf_i, zf_l, mz1, mz2, mz3, mz4, zr_ii, zr_iw, zr_ia, zr_il, zr_wi, zr_ww, zr_wa, zr_wl, zr_ai, zr_aw, zr_aa, zr_al, zr_li, zr_lw, zr_la, zr_ll, zw_ii, zw_ww, zw_aa, zw_ll, reduceIte, Nat.reduceEqDiff, if_true, if_false]) | with_reducible refine zb_o1 ?_ | with_reducible refine zb_o2 ?_ | with_reducible refine zb_o3 ?_ | with_reducible refine zb_o4 ?_ | with_reducible refine zb_tr ?_ | exact trivial | with_reducible refine zb_T ?_ | with_reducible refine zb_sp ?_ ?_)
      · rw [if_pos (by assumption)] at e
        rw [eI]
        exact e
      · rw [if_neg (by assumption)] at e
        refine sM_point0 t kn _ pts h (by omega) _ ?_
        refine sM_point0 t kn _ pts h (by omega) _ ?_
        rcases hok with ⟨e1, q⟩ | ⟨b, e1, q1, q2, q3, q4⟩
        · rw [e1] at e ⊢
          rw [if_pos (Or.inl (by omega))] at e
          try simp only [zl32, zl64, i32_add, i32_sub, i32_mul, i32_neg, i64_add, i64_sub, i64_mul, i64_neg, cv_gi, cv_gw, cv_ga, cv_gl, cv_pi, cv_pw, cv_pa, cv_pl, zf_S, zf_i, zf_l, mz1, mz2, mz3, mz4]
          repeat' (first | (exfalso; omega) | (with_reducible refine zb_in ?_ ?_ ?_ ?_; omega; omega; omega) | (with_reducible refine zb_le ?_ ?_ ?_ ?_ (fun _ => ?_) (fun _ => ?_); omega; omega; omega; omega) | (with_reducible refine zb_lt ?_ ?_ ?_ ?_ (fun _ => ?_) (fun _ => ?_); omega; omega; omega; omega) | (with_reducible refine zb_eq ?_ ?_ ?_ ?_ (fun _ => ?_) (fun _ => ?_); omega; omega; omega; omega) | (with_reducible refine zb_leL ?_ ?_ ?_ ?_ (fun _ => ?_) (fun _ => ?_); omega; omega; omega; omega) | (with_reducible refine zb_ltL ?_ ?_ ?_ ?_ (fun _ => ?_) (fun _ => ?_); omega; omega; omega; omega) | (with_reducible refine zb_eqL ?_ ?_ ?_ ?_ (fun _ => ?_) (fun _ => ?_); omega; omega; omega; omega) | (with_reducible refine zb_nz ?_ ?_ ?_ ?_; omega; omega; omega) | (with_reducible refine zb_nzL ?_ ?_ ?_ ?_; omega; omega; omega) | with_reducible refine zb_ite ?_ | with_reducible refine zb_iteL ?_ | ((with_reducible intro y hy); subst hy; try simp only [zl32, zl64, i32_add, i32_sub, i32_mul, i32_neg, i64_add, i64_sub, i64_mul, i64_neg, cv_gi, cv_gw, cv_ga, cv_gl, cv_pi, cv_pw, cv_pa, cv_pl, zf_S, zf_i, zf_l, mz1, mz2, mz3, mz4, zr_ii, zr_iw, zr_ia, zr_il, zr_wi, zr_ww, zr_wa, zr_wl, zr_ai, zr_aw, zr_aa, zr_al, zr_li, zr_lw, zr_la, zr_ll, zw_ii, zw_ww, zw_aa, zw_ll, reduceIte, Nat.reduceEqDiff, if_true, if_false]) | with_reducible refine zb_o1 ?_ | with_reducible refine zb_o2 ?_ | with_reducible refine zb_o3 ?_ | with_reducible refine zb_o4 ?_ | with_reducible refine zb_tr ?_ | exact trivial | with_reducible refine zb_T ?_ | with_reducible refine zb_sp ?_ ?_)
          rw [eI]
          exact e
        · rw [e1] at e ⊢
          rw [Int.toNat_natCast] at e
          try simp only [zl32, zl64, i32_add, i32_sub, i32_mul, i32_neg, i64_add, i64_sub, i64_mul, i64_neg, cv_gi, cv_gw, cv_ga, cv_gl, cv_pi, cv_pw, cv_pa, cv_pl, zf_S, zf_i, zf_l, mz1, mz2, mz3, mz4]
          repeat' (first | (exfalso; omega) | (with_reducible refine zb_in ?_ ?_ ?_ ?_; omega; omega; omega) | (with_reducible refine zb_le ?_ ?_ ?_ ?_ (fun _ => ?_) (fun _ => ?_); omega; omega; omega; omega) | (with_reducible refine zb_lt ?_ ?_ ?_ ?_ (fun _ => ?_) (fun _ => ?_); omega; omega; omega; omega) | (with_reducible refine zb_eq ?_ ?_ ?_ ?_ (fun _ => ?_) (fun _ => ?_); omega; omega; omega; omega) | (with_reducible refine zb_leL ?_ ?_ ?_ ?_ (fun _ => ?_) (fun _ => ?_); omega; omega; omega; omega) | (with_reducible refine zb_ltL ?_ ?_ ?_ ?_ (fun _ => ?_) (fun _ => ?_); omega; omega; omega; omega) | (with_reducible refine zb_eqL ?_ ?_ ?_ ?_ (fun _ => ?_) (fun _ => ?_); omega; omega; omega; omega) | (with_reducible refine zb_nz ?_ ?_ ?_ ?_; omega; omega; omega) | (with_reducible refine zb_nzL ?_ ?_ ?_ ?_; omega; omega; omega) | with_reducible refine zb_ite ?_ | with_reducible refine zb_iteL ?_ | ((with_reducible intro y hy); subst hy; try simp only [zl32, zl64, i32_add, i32_sub, i32_mul, i32_neg, i64_add, i64_sub, i64_mul, i64_neg, cv_gi, cv_gw, cv_ga, cv_gl, cv_pi, cv_pw, cv_pa, cv_pl, zf_S, zf_i, zf_l, mz1, mz2, mz3, mz4, zr_ii, zr_iw, zr_ia, zr_il, zr_wi, zr_ww, zr_wa, zr_wl, zr_ai, zr_aw, zr_aa, zr_al, zr_li, zr_lw, zr_la, zr_ll, zw_ii, zw_ww, zw_aa, zw_ll, reduceIte, Nat.reduceEqDiff, if_true, if_false]) | with_reducible refine zb_o1 ?_ | with_reducible refine zb_o2 ?_ | with_reducible refine zb_o3 ?_ | with_reducible refine zb_o4 ?_ | with_reducible refine zb_tr ?_ | exact trivial | with_reducible refine zb_T ?_ | with_reducible refine zb_sp ?_ ?_)
          refine sM_point0 t kn _ pts h (by omega) _ ?_
          refine sM_point0 t kn _ pts h (by omega) _ ?_
          have bb := hb b
          have x1 : -300001 * 8 ≤ (pts b - pts a) * (((a + 1 + c : Nat) : Int) - a) ∧ (pts b - pts a) * (((a + 1 + c : Nat) : Int) - a) ≤ 300001 * 8 := by
            have : (a + 1 + c : Nat) ≤ 8 := by omega
            constructor
            · have := Int.mul_le_mul_of_nonneg_right (show -300001 ≤ pts b - pts a by omega) (show 0 ≤ ((a + 1 + c : Nat) : Int) - a by omega)
              omega
            · have := Int.mul_le_mul_of_nonneg_right (show pts b - pts a ≤ 300001 by omega) (show 0 ≤ ((a + 1 + c : Nat) : Int) - a by omega)
              omega
          have x2 : -300001 * 8 ≤ (pts (a + 1 + c) - pts a) * ((b : Int) - a) ∧ (pts (a + 1 + c) - pts a) * ((b : Int) - a) ≤ 300001 * 8 := by
            constructor
            · have := Int.mul_le_mul_of_nonneg_right (show -300001 ≤ pts (a + 1 + c) - pts a by omega) (show 0 ≤ (b : Int) - a by omega)
              omega
            · have := Int.mul_le_mul_of_nonneg_right (show pts (a + 1 + c) - pts a ≤ 300001 by omega) (show 0 ≤ (b : Int) - a by omega)
              omega
          try simp only [zl32, zl64, i32_add, i32_sub, i32_mul, i32_neg, i64_add, i64_sub, i64_mul, i64_neg, cv_gi, cv_gw, cv_ga, cv_gl, cv_pi, cv_pw, cv_pa, cv_pl, zf_S, zf_i, zf_l, mz1, mz2, mz3, mz4]
          repeat' (first | (exfalso; omega) | (with_reducible refine zb_in ?_ ?_ ?_ ?_; omega; omega; omega) | (with_reducible refine zb_le ?_ ?_ ?_ ?_ (fun _ => ?_) (fun _ => ?_); omega; omega; omega; omega) | (with_reducible refine zb_lt ?_ ?_ ?_ ?_ (fun _ => ?_) (fun _ => ?_); omega; omega; omega; omega) | (with_reducible refine zb_eq ?_ ?_ ?_ ?_ (fun _ => ?_) (fun _ => ?_); omega; omega; omega; omega) | (with_reducible refine zb_leL ?_ ?_ ?_ ?_ (fun _ => ?_) (fun _ => ?_); omega; omega; omega; omega) | (with_reducible refine zb_ltL ?_ ?_ ?_ ?_ (fun _ => ?_) (fun _ => ?_); omega; omega; omega; omega) | (with_reducible refine zb_eqL ?_ ?_ ?_ ?_ (fun _ => ?_) (fun _ => ?_); omega; omega; omega; omega) | (with_reducible refine zb_nz ?_ ?_ ?_ ?_; omega; omega; omega) | (with_reducible refine zb_nzL ?_ ?_ ?_ ?_; omega; omega; omega) | with_reducible refine zb_ite ?_ | with_reducible refine zb_iteL ?_ | ((with_reducible intro y hy); subst hy; try simp only [zl32, zl64, i32_add, i32_sub, i32_mul, i32_neg, i64_add, i64_sub, i64_mul, i64_neg, cv_gi, cv_gw, cv_ga, cv_gl, cv_pi, cv_pw, cv_pa, cv_pl, zf_S, zf_i, zf_l, mz1, mz2, mz3, mz4, zr_ii, zr_iw, zr_ia, zr_il, zr_wi, zr_ww, zr_wa, zr_wl, zr_ai, zr_aw, zr_aa, zr_al, zr_li, zr_lw, zr_la, zr_ll, zw_ii, zw_ww, zw_aa, zw_ll, reduceIte, Nat.reduceEqDiff, if_true, if_false]) | with_reducible refine zb_o1 ?_ | with_reducible refine zb_o2 ?_ | with_reducible refine zb_o3 ?_ | with_reducible refine zb_o4 ?_ | with_reducible refine zb_tr ?_ | exact trivial | with_reducible refine zb_T ?_ | with_reducible refine zb_sp ?_ ?_)
          · rw [if_neg (by omega)] at e
            rw [eI]
            exact e
          · rw [if_pos (by omega)] at e
            rw [eI]
            exact e
  unfold wM_nextCorner
  try simp only [zl32, zl64, i32_add, i32_sub, i32_mul, i32_neg, i64_add, i64_sub, i64_mul, i64_neg, cv_gi, cv_gw, cv_ga, cv_gl, cv_pi, cv_pw, cv_pa, cv_pl, zf_S, zf_i, zf_l, mz1, mz2, mz3, mz4]
  refine ⟨l - a + 1, ?_⟩
  exact S (l - a) 0 (by omega)
