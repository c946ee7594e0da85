/-! PURE 1: numbers of 32 and 64 bits as Ints; the model's state over Ints -/
set_option maxRecDepth 100000
theorem i32_ex : ∃ f : Int → Int32, ∀ v, f v = Int32.ofInt v := ⟨_, fun _ => rfl⟩
theorem i64_ex : ∃ f : Int → Int64, ∀ v, f v = Int64.ofInt v := ⟨_, fun _ => rfl⟩
/-- the casts, shut to the unifier -/
noncomputable def i32 : Int → Int32 := Classical.choose i32_ex
noncomputable def i64 : Int → Int64 := Classical.choose i64_ex
theorem i32_d (v : Int) : i32 v = Int32.ofInt v := Classical.choose_spec i32_ex v
theorem i64_d (v : Int) : i64 v = Int64.ofInt v := Classical.choose_spec i64_ex v
theorem i32_add (a b : Int) : i32 a + i32 b = i32 (a + b) := by rw [i32_d, i32_d, i32_d, Int32.ofInt_add]
theorem i32_sub (a b : Int) : i32 a - i32 b = i32 (a - b) := by rw [i32_d, i32_d, i32_d, Int32.ofInt_sub]
theorem i32_mul (a b : Int) : i32 a * i32 b = i32 (a * b) := by rw [i32_d, i32_d, i32_d, Int32.ofInt_mul]
theorem i32_neg (a : Int) : -i32 a = i32 (-a) := by rw [i32_d, i32_d, Int32.ofInt_neg]
theorem i64_add (a b : Int) : i64 a + i64 b = i64 (a + b) := by rw [i64_d, i64_d, i64_d, Int64.ofInt_add]
theorem i64_sub (a b : Int) : i64 a - i64 b = i64 (a - b) := by rw [i64_d, i64_d, i64_d, Int64.ofInt_sub]
theorem i64_mul (a b : Int) : i64 a * i64 b = i64 (a * b) := by rw [i64_d, i64_d, i64_d, Int64.ofInt_mul]
theorem i64_neg (a : Int) : -i64 a = i64 (-a) := by rw [i64_d, i64_d, Int64.ofInt_neg]
theorem i32_of (x : Int32) : i32 x.toInt = x := by rw [i32_d, Int32.ofInt_toInt]
theorem i64_of (x : Int64) : i64 x.toInt = x := by rw [i64_d, Int64.ofInt_toInt]
theorem i32_toInt {v : Int} (h : -2147483648 ≤ v) (h' : v < 2147483648) : (i32 v).toInt = v := by rw [i32_d]; exact Int32.toInt_ofInt_of_le (by omega) (by omega)
theorem i64_toInt {v : Int} (h : -9223372036854775808 ≤ v) (h' : v < 9223372036854775808) : (i64 v).toInt = v := by rw [i64_d]; exact Int64.toInt_ofInt_of_le (by omega) (by omega)
theorem i32_le {a b : Int} (h1 : -2147483648 ≤ a) (h2 : a < 2147483648) (h3 : -2147483648 ≤ b) (h4 : b < 2147483648) : i32 a ≤ i32 b ↔ a ≤ b := by
  rw [Int32.le_iff_toInt_le, i32_toInt h1 h2, i32_toInt h3 h4]
theorem i32_lt {a b : Int} (h1 : -2147483648 ≤ a) (h2 : a < 2147483648) (h3 : -2147483648 ≤ b) (h4 : b < 2147483648) : i32 a < i32 b ↔ a < b := by
  rw [Int32.lt_iff_toInt_lt, i32_toInt h1 h2, i32_toInt h3 h4]
theorem i32_eq {a b : Int} (h1 : -2147483648 ≤ a) (h2 : a < 2147483648) (h3 : -2147483648 ≤ b) (h4 : b < 2147483648) : i32 a = i32 b ↔ a = b := by
  rw [← Int32.toInt_inj, i32_toInt h1 h2, i32_toInt h3 h4]
theorem i64_le {a b : Int} (h1 : -9223372036854775808 ≤ a) (h2 : a < 9223372036854775808) (h3 : -9223372036854775808 ≤ b) (h4 : b < 9223372036854775808) : i64 a ≤ i64 b ↔ a ≤ b := by
  rw [Int64.le_iff_toInt_le, i64_toInt h1 h2, i64_toInt h3 h4]
theorem i64_lt {a b : Int} (h1 : -9223372036854775808 ≤ a) (h2 : a < 9223372036854775808) (h3 : -9223372036854775808 ≤ b) (h4 : b < 9223372036854775808) : i64 a < i64 b ↔ a < b := by
  rw [Int64.lt_iff_toInt_lt, i64_toInt h1 h2, i64_toInt h3 h4]
theorem i64_eq {a b : Int} (h1 : -9223372036854775808 ≤ a) (h2 : a < 9223372036854775808) (h3 : -9223372036854775808 ≤ b) (h4 : b < 9223372036854775808) : i64 a = i64 b ↔ a = b := by
  rw [← Int64.toInt_inj, i64_toInt h1 h2, i64_toInt h3 h4]
theorem i32_div {a b : Int} (h1 : -2147483648 ≤ a) (h2 : a < 2147483648) (h3 : -2147483648 ≤ b) (h4 : b < 2147483648) : i32 a / i32 b = i32 (a.tdiv b) := by
  rw [i32_d, i32_d, i32_d]
  exact (Int32.ofInt_tdiv (by show (-2147483648 : Int) ≤ a; exact h1) (by show a ≤ (2147483647 : Int); omega) (by show (-2147483648 : Int) ≤ b; exact h3) (by show b ≤ (2147483647 : Int); omega)).symm
theorem i64_div {a b : Int} (h1 : -9223372036854775808 ≤ a) (h2 : a < 9223372036854775808) (h3 : -9223372036854775808 ≤ b) (h4 : b < 9223372036854775808) : i64 a / i64 b = i64 (a.tdiv b) := by
  rw [i64_d, i64_d, i64_d]
  exact (Int64.ofInt_tdiv (by show (-9223372036854775808 : Int) ≤ a; exact h1) (by show a ≤ (9223372036854775807 : Int); omega) (by show (-9223372036854775808 : Int) ≤ b; exact h3) (by show b ≤ (9223372036854775807 : Int); omega)).symm
theorem i32_64 {a : Int} (h1 : -2147483648 ≤ a) (h2 : a < 2147483648) : (i32 a).toInt64 = i64 a := by
  rw [i32_d, i64_d]
  exact Int32.toInt64_ofInt (by show (-2147483648 : Int) ≤ a; exact h1) (by show a ≤ (2147483647 : Int); omega)
theorem i64_32 (a : Int) : (i64 a).toInt32 = i32 a := by rw [i32_d, i64_d]; exact Int64.toInt32_ofInt
theorem i32_nat {a : Int} (h1 : -2147483648 ≤ a) (h2 : a < 2147483648) : (i32 a).toNatClampNeg = a.toNat := by rw [i32_d]; exact Int32.toNatClampNeg_ofInt_of_le (by omega) (by omega)
theorem i32_natN {k : Nat} (h2 : k < 2147483648) : (i32 (k : Int)).toNatClampNeg = k := by
  rw [i32_nat (by omega) (by omega), Int.toNat_natCast]
theorem i32_in {a : Int} {n : Nat} (h1 : 0 ≤ a) (h2 : a < (n : Int)) (h3 : a < 2147483648) : vp_in (i32 a) n := by
  intro h
  rcases h with h | h
  · rw [show (0 : Int32) = i32 0 from (i32_d 0).symm, i32_lt (by omega) (by omega) (by omega) (by omega)] at h
    omega
  · rw [i32_nat (by omega) (by omega)] at h
    omega
theorem i32_0 : (0 : Int32) = i32 0 := (i32_d 0).symm
theorem i64_0 : (0 : Int64) = i64 0 := (i64_d 0).symm
theorem i32_rng (x : Int32) : -2147483648 ≤ x.toInt ∧ x.toInt < 2147483648 := ⟨x.le_toInt, x.toInt_lt⟩
theorem i64_rng (x : Int64) : -9223372036854775808 ≤ x.toInt ∧ x.toInt < 9223372036854775808 := ⟨x.le_toInt, x.toInt_lt⟩
theorem ze_tmod (a b : Int) : a - a.tdiv b * b = a.tmod b := by
  rw [Int.tmod_def, Int.mul_comm]
theorem ze_tmodn {a b : Int} (h : 0 ≤ a) : a.tmod b = a % b := Int.tmod_eq_emod_of_nonneg h
theorem ze_tdivn {a b : Int} (h : 0 ≤ a) : a.tdiv b = a / b := Int.tdiv_eq_ediv_of_nonneg h
/-- branches -/
theorem zb_le {a b : Int} {P R : Prop} (h1 : -2147483648 ≤ a) (h2 : a < 2147483648) (h3 : -2147483648 ≤ b) (h4 : b < 2147483648) (p : a ≤ b → P) (r : ¬ a ≤ b → R) : (i32 a ≤ i32 b → P) ∧ (¬ i32 a ≤ i32 b → R) :=
  ⟨fun h => p ((i32_le h1 h2 h3 h4).mp h), fun h => r (fun q => h ((i32_le h1 h2 h3 h4).mpr q))⟩
theorem zb_lt {a b : Int} {P R : Prop} (h1 : -2147483648 ≤ a) (h2 : a < 2147483648) (h3 : -2147483648 ≤ b) (h4 : b < 2147483648) (p : a < b → P) (r : ¬ a < b → R) : (i32 a < i32 b → P) ∧ (¬ i32 a < i32 b → R) :=
  ⟨fun h => p ((i32_lt h1 h2 h3 h4).mp h), fun h => r (fun q => h ((i32_lt h1 h2 h3 h4).mpr q))⟩
theorem zb_eq {a b : Int} {P R : Prop} (h1 : -2147483648 ≤ a) (h2 : a < 2147483648) (h3 : -2147483648 ≤ b) (h4 : b < 2147483648) (p : a = b → P) (r : ¬ a = b → R) : (i32 a = i32 b → P) ∧ (¬ i32 a = i32 b → R) :=
  ⟨fun h => p ((i32_eq h1 h2 h3 h4).mp h), fun h => r (fun q => h ((i32_eq h1 h2 h3 h4).mpr q))⟩
theorem zb_leL {a b : Int} {P R : Prop} (h1 : -9223372036854775808 ≤ a) (h2 : a < 9223372036854775808) (h3 : -9223372036854775808 ≤ b) (h4 : b < 9223372036854775808) (p : a ≤ b → P) (r : ¬ a ≤ b → R) : (i64 a ≤ i64 b → P) ∧ (¬ i64 a ≤ i64 b → R) :=
  ⟨fun h => p ((i64_le h1 h2 h3 h4).mp h), fun h => r (fun q => h ((i64_le h1 h2 h3 h4).mpr q))⟩
theorem zb_ltL {a b : Int} {P R : Prop} (h1 : -9223372036854775808 ≤ a) (h2 : a < 9223372036854775808) (h3 : -9223372036854775808 ≤ b) (h4 : b < 9223372036854775808) (p : a < b → P) (r : ¬ a < b → R) : (i64 a < i64 b → P) ∧ (¬ i64 a < i64 b → R) :=
  ⟨fun h => p ((i64_lt h1 h2 h3 h4).mp h), fun h => r (fun q => h ((i64_lt h1 h2 h3 h4).mpr q))⟩
theorem zb_eqL {a b : Int} {P R : Prop} (h1 : -9223372036854775808 ≤ a) (h2 : a < 9223372036854775808) (h3 : -9223372036854775808 ≤ b) (h4 : b < 9223372036854775808) (p : a = b → P) (r : ¬ a = b → R) : (i64 a = i64 b → P) ∧ (¬ i64 a = i64 b → R) :=
  ⟨fun h => p ((i64_eq h1 h2 h3 h4).mp h), fun h => r (fun q => h ((i64_eq h1 h2 h3 h4).mpr q))⟩
theorem zb_in {a : Int} {n : Nat} {P : Prop} (h1 : 0 ≤ a) (h2 : a < (n : Int)) (h3 : a < 2147483648) (p : P) : vp_in (i32 a) n ∧ P := ⟨i32_in h1 h2 h3, p⟩
theorem zb_nz {a : Int} {P : Prop} (h1 : -2147483648 ≤ a) (h2 : a < 2147483648) (h3 : a ≠ 0) (p : P) : ¬ i32 a = i32 0 ∧ P :=
  ⟨fun h => h3 ((i32_eq h1 h2 (by omega) (by omega)).mp h), p⟩
theorem zb_nzL {a : Int} {P : Prop} (h1 : -9223372036854775808 ≤ a) (h2 : a < 9223372036854775808) (h3 : a ≠ 0) (p : P) : ¬ i64 a = i64 0 ∧ P :=
  ⟨fun h => h3 ((i64_eq h1 h2 (by omega) (by omega)).mp h), p⟩
/-! the model's state over Ints -/
abbrev tS : Type := (Nat → Int) × Int × (Nat → Nat → Int) × (Nat → Nat → Int)
noncomputable def cv (t : tS) : mS := (fun k => i32 (t.1 k), i64 t.2.1, fun k j => i32 (t.2.2.1 k j), fun k j => i64 (t.2.2.2 k j))
def tgi (t : tS) (k : Nat) : Int := t.1 k
def tgw (t : tS) : Int := t.2.1
def tga (t : tS) (k : Nat) : Nat → Int := t.2.2.1 k
def tgl (t : tS) (k : Nat) : Nat → Int := t.2.2.2 k
def zup (f : Nat → Int) (j : Nat) (v : Int) : Nat → Int := fun q => if q = j then v else f q
def tpi (t : tS) (k : Nat) (v : Int) : tS := (zup t.1 k v, t.2)
def tpw (t : tS) (v : Int) : tS := (t.1, v, t.2.2)
def tsa (t : tS) (k : Nat) (f : Nat → Int) : tS := (t.1, t.2.1, fun q => if q = k then f else t.2.2.1 q, t.2.2.2)
def tsl (t : tS) (k : Nat) (f : Nat → Int) : tS := (t.1, t.2.1, t.2.2.1, fun q => if q = k then f else t.2.2.2 q)
theorem cv_gi (t : tS) (k : Nat) : mgi (cv t) k = i32 (tgi t k) := rfl
theorem cv_gw (t : tS) : mgw (cv t) = i64 (tgw t) := rfl
theorem cv_ga (t : tS) (k j : Nat) : mga (cv t) k j = i32 (tga t k j) := rfl
theorem cv_gl (t : tS) (k j : Nat) : mgl (cv t) k j = i64 (tgl t k j) := rfl
theorem cv_pi (t : tS) (k : Nat) (v : Int) : mpi (cv t) k (i32 v) = cv (tpi t k v) := by
  unfold mpi cv tpi zup
  congr 1
  funext q
  by_cases h : q = k
  · simp [h]
  · simp [h]
theorem cv_pw (t : tS) (v : Int) : mpw (cv t) (i64 v) = cv (tpw t v) := rfl
theorem cv_pa (t : tS) (k j : Nat) (v : Int) : mpa (cv t) k j (i32 v) = cv (tsa t k (zup (tga t k) j v)) := by
  unfold mpa cv tsa tga zup upd
  congr 3
  funext q i
  by_cases h : q = k
  · subst h
    by_cases h2 : i = j
    · simp [h2]
    · simp [h2]
  · simp [h]
theorem cv_pl (t : tS) (k j : Nat) (v : Int) : mpl (cv t) k j (i64 v) = cv (tsl t k (zup (tgl t k) j v)) := by
  unfold mpl cv tsl tgl zup vp_updL
  congr 3
  funext q i
  by_cases h : q = k
  · subst h
    by_cases h2 : i = j
    · simp [h2]
    · simp [h2]
  · simp [h]
theorem cv_of (σ : mS) : ∃ t : tS, σ = cv t := ⟨(fun k => (σ.1 k).toInt, σ.2.1.toInt, fun k j => (σ.2.2.1 k j).toInt, fun k j => (σ.2.2.2 k j).toInt), by
  unfold cv
  simp only [i32_of, i64_of]⟩
/-! reads after writes -/
theorem zr_ii (t : tS) (k j : Nat) (v : Int) : tgi (tpi t k v) j = if j = k then v else tgi t j := rfl
theorem zr_iw (t : tS) (j : Nat) (v : Int) : tgi (tpw t v) j = tgi t j := rfl
theorem zr_ia (t : tS) (k j : Nat) (f : Nat → Int) : tgi (tsa t k f) j = tgi t j := rfl
theorem zr_il (t : tS) (k j : Nat) (f : Nat → Int) : tgi (tsl t k f) j = tgi t j := rfl
theorem zr_wi (t : tS) (k : Nat) (v : Int) : tgw (tpi t k v) = tgw t := rfl
theorem zr_ww (t : tS) (v : Int) : tgw (tpw t v) = v := rfl
theorem zr_wa (t : tS) (k : Nat) (f : Nat → Int) : tgw (tsa t k f) = tgw t := rfl
theorem zr_wl (t : tS) (k : Nat) (f : Nat → Int) : tgw (tsl t k f) = tgw t := rfl
theorem zr_ai (t : tS) (k j : Nat) (v : Int) : tga (tpi t k v) j = tga t j := rfl
theorem zr_aw (t : tS) (j : Nat) (v : Int) : tga (tpw t v) j = tga t j := rfl
theorem zr_aa (t : tS) (k j : Nat) (f : Nat → Int) : tga (tsa t k f) j = if j = k then f else tga t j := rfl
theorem zr_al (t : tS) (k j : Nat) (f : Nat → Int) : tga (tsl t k f) j = tga t j := rfl
theorem zr_li (t : tS) (k j : Nat) (v : Int) : tgl (tpi t k v) j = tgl t j := rfl
theorem zr_lw (t : tS) (j : Nat) (v : Int) : tgl (tpw t v) j = tgl t j := rfl
theorem zr_la (t : tS) (k j : Nat) (f : Nat → Int) : tgl (tsa t k f) j = tgl t j := rfl
theorem zr_ll (t : tS) (k j : Nat) (f : Nat → Int) : tgl (tsl t k f) j = if j = k then f else tgl t j := rfl
/-! writes after writes -/
theorem zw_ii (t : tS) (k : Nat) (v w : Int) : tpi (tpi t k v) k w = tpi t k w := by
  unfold tpi zup
  congr 1
  funext q
  by_cases h : q = k
  · simp [h]
  · simp [h]
theorem zw_ww (t : tS) (v w : Int) : tpw (tpw t v) w = tpw t w := rfl
theorem zw_aa (t : tS) (k : Nat) (f g : Nat → Int) : tsa (tsa t k f) k g = tsa t k g := by
  unfold tsa
  congr 3
  funext q
  by_cases h : q = k
  · simp [h]
  · simp [h]
theorem zw_ll (t : tS) (k : Nat) (f g : Nat → Int) : tsl (tsl t k f) k g = tsl t k g := by
  unfold tsl
  congr 3
  funext q
  by_cases h : q = k
  · simp [h]
  · simp [h]
theorem zw_i0 (t : tS) (k : Nat) : tpi t k (tgi t k) = t := by
  unfold tpi zup tgi
  refine Prod.ext ?_ rfl
  funext q
  by_cases h : q = k
  · simp [h]
  · simp [h]
theorem zw_a0 (t : tS) (k : Nat) : tsa t k (tga t k) = t := by
  unfold tsa tga
  refine Prod.ext rfl (Prod.ext rfl (Prod.ext ?_ rfl))
  funext q
  by_cases h : q = k
  · simp [h]
  · simp [h]
theorem zw_l0 (t : tS) (k : Nat) : tsl t k (tgl t k) = t := by
  unfold tsl tgl
  refine Prod.ext rfl (Prod.ext rfl (Prod.ext rfl ?_))
  funext q
  by_cases h : q = k
  · simp [h]
  · simp [h]
theorem zup_at (f : Nat → Int) (j : Nat) (v : Int) : zup f j v j = v := if_pos rfl
theorem zup_ne (f : Nat → Int) {j q : Nat} (v : Int) (h : q ≠ j) : zup f j v q = f q := if_neg h
/-- a field's frame: what a method leaves -/
def zfr (ki ka kl : List Nat) (t u : tS) : Prop := tgw t = tgw u ∧ (∀ k, k ∉ ki → tgi t k = tgi u k) ∧ (∀ k, k ∉ ka → tga t k = tga u k) ∧ ∀ k, k ∉ kl → tgl t k = tgl u k
theorem zfr.refl {ki ka kl : List Nat} (t : tS) : zfr ki ka kl t t := ⟨rfl, fun _ _ => rfl, fun _ _ => rfl, fun _ _ => rfl⟩
theorem zfr.trans {ki ka kl : List Nat} {t u v : tS} (h : zfr ki ka kl t u) (h' : zfr ki ka kl u v) : zfr ki ka kl t v :=
  ⟨h.1.trans h'.1, fun k q => (h.2.1 k q).trans (h'.2.1 k q), fun k q => (h.2.2.1 k q).trans (h'.2.2.1 k q), fun k q => (h.2.2.2 k q).trans (h'.2.2.2 k q)⟩
theorem zfr.mono {ki ka kl ki' ka' kl' : List Nat} {t u : tS} (h : zfr ki ka kl t u) (h1 : ∀ k, k ∈ ki → k ∈ ki') (h2 : ∀ k, k ∈ ka → k ∈ ka') (h3 : ∀ k, k ∈ kl → k ∈ kl') : zfr ki' ka' kl' t u :=
  ⟨h.1, fun k q => h.2.1 k (fun z => q (h1 k z)), fun k q => h.2.2.1 k (fun z => q (h2 k z)), fun k q => h.2.2.2 k (fun z => q (h3 k z))⟩
theorem zl32 (n : Nat) : (OfNat.ofNat n : Int32) = i32 (OfNat.ofNat n) := by rw [i32_d]; exact (Int32.ofInt_eq_ofNat (n := n)).symm
theorem zl64 (n : Nat) : (OfNat.ofNat n : Int64) = i64 (OfNat.ofNat n) := by rw [i64_d]; exact (Int64.ofInt_eq_ofNat (n := n)).symm
theorem zf_S {P : mS → Prop} {a : mS} : (∀ s, s = a → P s) = P a := propext ⟨fun h => h a rfl, fun h s e => e ▸ h⟩
theorem zf_i {P : Int32 → Prop} {v : Int} : (∀ y, y = i32 v → P y) = P (i32 v) := propext ⟨fun h => h _ rfl, fun h s e => e ▸ h⟩
theorem zf_l {P : Int64 → Prop} {v : Int} : (∀ y, y = i64 v → P y) = P (i64 v) := propext ⟨fun h => h _ rfl, fun h s e => e ▸ h⟩
theorem zb_ite {C : Prop} {q : Decidable C} {a b : Int32} {P : Int32 → Prop} (h : (C → ∀ y, y = a → P y) ∧ (¬ C → ∀ y, y = b → P y)) : ∀ y, y = @ite Int32 C q a b → P y := by
  intro y hy
  by_cases hc : C
  · rw [if_pos hc] at hy
    exact h.1 hc y hy
  · rw [if_neg hc] at hy
    exact h.2 hc y hy
theorem zb_iteL {C : Prop} {q : Decidable C} {a b : Int64} {P : Int64 → Prop} (h : (C → ∀ y, y = a → P y) ∧ (¬ C → ∀ y, y = b → P y)) : ∀ y, y = @ite Int64 C q a b → P y := by
  intro y hy
  by_cases hc : C
  · rw [if_pos hc] at hy
    exact h.1 hc y hy
  · rw [if_neg hc] at hy
    exact h.2 hc y hy
theorem zb_tr {P : Prop} (h : P) : True ∧ P := ⟨trivial, h⟩
theorem zx9 (s k : Nat) : (9 * (s : Int) + (k : Int)).toNat = 9 * s + k := by omega
theorem zx7 (s k : Nat) : (7 * (s : Int) + (k : Int)).toNat = 7 * s + k := by omega
theorem zx40 (s k : Nat) : (40 * (s : Int) + (k : Int)).toNat = 40 * s + k := by omega
theorem zxp (s k : Nat) : ((s : Int) + (k : Int)).toNat = s + k := by omega
theorem zx1 (s : Nat) : ((s : Int) + 1).toNat = s + 1 := by omega
theorem zb_o1 {A P : Prop} (h : P) : (True ∨ A) ∧ P := ⟨Or.inl trivial, h⟩
theorem zb_o2 {A P : Prop} (h : P) : (A ∨ True) ∧ P := ⟨Or.inr trivial, h⟩
theorem zb_o3 {A P : Prop} {v : Int} (h : P) : (i32 v = i32 v ∨ A) ∧ P := ⟨Or.inl rfl, h⟩
theorem zb_o4 {A P : Prop} {v : Int} (h : P) : (A ∨ i32 v = i32 v) ∧ P := ⟨Or.inr rfl, h⟩
theorem zi9 {s k : Nat} (h : 9 * s + k < 2147483648) : (i32 (9 * (s : Int) + (k : Int))).toNatClampNeg = 9 * s + k := by
  rw [i32_nat (by omega) (by omega), zx9]
theorem zi7 {s k : Nat} (h : 7 * s + k < 2147483648) : (i32 (7 * (s : Int) + (k : Int))).toNatClampNeg = 7 * s + k := by
  rw [i32_nat (by omega) (by omega), zx7]
theorem zi40 {s k : Nat} (h : 40 * s + k < 2147483648) : (i32 (40 * (s : Int) + (k : Int))).toNatClampNeg = 40 * s + k := by
  rw [i32_nat (by omega) (by omega), zx40]
theorem zi9o {s : Nat} (h : 9 * s < 2147483648) : (i32 (9 * (s : Int))).toNatClampNeg = 9 * s := by
  rw [i32_nat (by omega) (by omega)]; omega
theorem zi7o {s : Nat} (h : 7 * s < 2147483648) : (i32 (7 * (s : Int))).toNatClampNeg = 7 * s := by
  rw [i32_nat (by omega) (by omega)]; omega
theorem zip1 {s : Nat} (h : s + 1 < 2147483648) : (i32 ((s : Int) + 1)).toNatClampNeg = s + 1 := by
  rw [i32_nat (by omega) (by omega)]; omega
theorem zip {s k : Nat} (h : s + k < 2147483648) : (i32 ((s : Int) + (k : Int))).toNatClampNeg = s + k := by
  rw [i32_nat (by omega) (by omega)]; omega
theorem zim1 {s : Nat} (h : s < 2147483648) (h' : 1 ≤ s) : (i32 ((s : Int) - 1)).toNatClampNeg = s - 1 := by
  rw [i32_nat (by omega) (by omega)]; omega
theorem zi360 {k : Nat} (h : 360 + k < 2147483648) : (i32 (360 + (k : Int))).toNatClampNeg = 360 + k := by
  rw [i32_nat (by omega) (by omega)]; omega
theorem ziL {n : Nat} (h : n < 2147483648) : (i32 (OfNat.ofNat n)).toNatClampNeg = n := i32_natN (k := n) h
theorem ze_mod (v M : Int) (hM : 0 < M) : (0 ≤ v.tmod M → v.tmod M = v % M) ∧ (v.tmod M < 0 → v.tmod M + M = v % M) ∧ -M < v.tmod M ∧ v.tmod M < M := by
  have hlt : v.tmod M < M := Int.tmod_lt_of_pos v hM
  have hgt : -M < v.tmod M := by
    rcases Int.le_total 0 v with h | h
    · have := Int.tmod_nonneg M h
      omega
    · have e : v.tmod M = -((-v).tmod M) := by rw [Int.neg_tmod]; omega
      have := Int.tmod_lt_of_pos (-v) hM
      omega
  have hv : v = v.tmod M + M * v.tdiv M := (Int.tmod_add_mul_tdiv v M).symm
  have he : v % M = v.tmod M % M := by
    have : (v.tmod M + M * v.tdiv M) % M = v.tmod M % M := Int.add_mul_emod_self_left _ _ _
    rw [← hv] at this
    exact this
  refine ⟨fun h => ?_, fun h => ?_, hgt, hlt⟩
  · rw [he, Int.emod_eq_of_lt h hlt]
  · rw [he, ← Int.add_emod_right, Int.emod_eq_of_lt (by omega) (by omega)]
theorem zijd {j d k : Nat} (hd : d ≤ j) (h : j - d + k < 2147483648) : (i32 ((j : Int) - (d : Int) + (k : Int))).toNatClampNeg = j - d + k := by
  rw [i32_nat (by omega) (by omega)]; omega
theorem ze_mulb {a b M : Int} (h1 : 0 ≤ a) (h2 : a < M) (h3 : 0 ≤ b) (h4 : b < M) (hM : M < 536870912) : 0 ≤ a * b ∧ a * b ≤ 288230376151711744 := by
  refine ⟨Int.mul_nonneg h1 h3, ?_⟩
  have := Int.mul_le_mul (a := a) (b := b) (c := 536870912) (d := 536870912) (by omega) (by omega) h3 (by omega)
  omega
theorem mz1 (σ : mS) (k j i : Nat) (v : Int32) : mgi (mpa σ k j v) i = mgi σ i := rfl
theorem mz2 (σ : mS) (k j i : Nat) (v : Int64) : mgi (mpl σ k j v) i = mgi σ i := rfl
theorem mz3 (σ : mS) (k j : Nat) (v : Int32) : mgw (mpa σ k j v) = mgw σ := rfl
theorem mz4 (σ : mS) (k j : Nat) (v : Int64) : mgw (mpl σ k j v) = mgw σ := rfl
theorem zb_sp {A B C : Prop} (h : A ∧ B) (h' : C) : (A ∧ B) ∧ C := ⟨h, h'⟩
theorem ze_emodn (a b : Int) : a - a / b * b = a % b := by
  rw [Int.emod_def, Int.mul_comm]
theorem zb_T {P R : Prop} (h : P) : (True → P) ∧ (¬ True → R) := ⟨fun _ => h, fun q => absurd trivial q⟩
theorem zi_0 : (i32 0).toNatClampNeg = 0 := i32_natN (k := 0) (by omega)
theorem zi_1 : (i32 1).toNatClampNeg = 1 := i32_natN (k := 1) (by omega)
theorem zikj {a k j : Nat} (hj : j ≤ k) (h : a + k < 2147483648) : (i32 ((a : Int) + (k : Int) - (j : Int))).toNatClampNeg = a + (k - j) := by
  rw [i32_nat (by omega) (by omega)]; omega
