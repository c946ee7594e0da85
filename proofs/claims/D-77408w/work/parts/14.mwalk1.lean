/-! the model's methods: predicates and walks, printed (part 1) -/
set_option maxRecDepth 100000
def wM_lays_l17  (Q : mS → Prop)  (x1 : Int32) (x2 : Int32) : Nat → mS → Int32 → Prop
  | 0, _, _ => False
  | n + 1, σ, x3 => ((x2 ≤ x3 → ∀ σ41 : mS, σ41 = mpi σ 18 0 → Q σ41) ∧ (¬ x2 ≤ x3 → ∀ σ30 : mS, σ30 = mpw σ ((mgw σ) * (x1).toInt64) → wM_lays_l17  Q  x1 x2 n σ30 (x3 + 1)))
def wM_lays (σ : mS) (x1 : Int32) (x2 : Int32) (Q : mS → Prop) : Prop :=
  ∀ σ2 : mS, σ2 = mpi σ 0 x1 → ∀ σ7 : mS, σ7 = mpi σ2 1 x2 → ∀ σ12 : mS, σ12 = mpw σ7 1 → (∃ k17 : Nat, wM_lays_l17  Q  x1 x2 k17 σ12 (0 : Int32))
set_option maxHeartbeats 4000000 in
theorem mM_lays (l : Launch) (G : mG) (o : Nat) (ρ : Nat → Nat) (hap : mAp o ρ) (σ : mS) (x1 : Int32) (x2 : Int32) (Q : mS → Prop) (hw : wM_lays σ x1 x2 Q) : mMetV l G yX2_lays (ws_ yX2_lays cX2_lays 4 none) 0 0 o ρ [.ref o, .int x1, .int x2] σ Q := by
  refine mo_V plain2 rfl (Nat.le_of_ble_eq_true rfl) ?_
  intro p e s R m args below meth c QQ X hRf hRl hret
  obtain ⟨hx, hb, hml, hown, hts, hE⟩ := id X
  have hL17 : ∀ (x1 : Int32) (x2 : Int32) (n17 : Nat) (σ : mS) (x3 : Int32), wM_lays_l17  Q  x1 x2 n17 σ x3 → ∀ (H : Heap) (locs : List Loc) (ls : Array Slot), mR G o ρ σ H → va_S (mA o ρ) s.heap H locs → lv_has ls 4 [(0, .ref o), (1, .int x1), (2, .int x2), (3, .int x3)] → W p l e R s m args below meth c H locs 0 0 QQ (F0 m 17 ls []) := by
    intro x1 x2 n17
    induction n17 with
    | zero => intro σ x3 hw; exact hw.elim
    | succ n17 ih17 =>
      intro σ x3 hw H locs ls hR hS hl
      rw [wM_lays_l17] at hw
      refine lv_iload_n hx hb dX2_lays_17 rfl (lv_at hl 3 rfl) ?_
      refine lv_iload_n hx hb dX2_lays_18 rfl (lv_at hl 2 rfl) ?_
      refine lv_icmp_ge (tgt := 39) hx hb dX2_lays_19 (by decide) (fun c_19 => ?_) (fun c_19 => ?_)
      · have hw := hw.1 c_19
        refine lv_aload_n hx hb dX2_lays_39 rfl (lv_at hl 0 rfl) ?_
        refine lv_iconst (v := 0) hx hb dX2_lays_40 (by decide) ?_
        refine mp_18 hx hb hts hown hE hap hR hS (by decide) dX2_lays_41 (fun σ41 e_σ41 H locs hR hS => ?_)
        have hw := hw σ41 e_σ41
        clear e_σ41
        exact hret _ _ _ _ _ hw hR hS dX2_lays_44
      · have hw := hw.2 c_19
        refine lv_aload_n hx hb dX2_lays_22 rfl (lv_at hl 0 rfl) ?_
        refine lv_dup hx hb dX2_lays_23 rfl ?_
        refine mg_2 hx hb hts hown hE hR dX2_lays_24 ?_
        refine lv_iload_n hx hb dX2_lays_27 rfl (lv_at hl 1 rfl) ?_
        refine lv_i2l hx hb dX2_lays_28 rfl ?_
        refine lv_lmul hx hb dX2_lays_29 ?_
        refine mp_2 hx hb hts hown hE hap hR hS dX2_lays_30 (fun σ30 e_σ30 H locs hR hS => ?_)
        have hw := hw σ30 e_σ30
        clear e_σ30
        refine lv_iinc (k := 3) (lv' := [(3, .int (x3 + 1)), (0, .ref o), (1, .int x1), (2, .int x2)]) hx hb dX2_lays_33 hl rfl (congrArg (x3 + ·) (by decide : Int32.ofInt 1 = 1)) (by decide) rfl (fun ls hl => ?_)
        refine lv_goto (tgt := 17) hx hb dX2_lays_36 (by decide) ?_
        exact ih17 σ30 (x3 + 1) hw H locs ls hR hS (lv_sub hl [1, 2, 3, 0] rfl)
  intro H ls hR hS hl
  have hl : lv_has ls 4 [(0, .ref o), (1, .int x1), (2, .int x2)] := hl
  generalize ([] : List Loc) = locs at hS ⊢
  unfold wM_lays at hw
  refine lv_aload_n hx hb dX2_lays_0 rfl (lv_at hl 0 rfl) ?_
  refine lv_iload_n hx hb dX2_lays_1 rfl (lv_at hl 1 rfl) ?_
  refine mp_0 hx hb hts hown hE hap hR hS dX2_lays_2 (fun σ2 e_σ2 H locs hR hS => ?_)
  have hw := hw σ2 e_σ2
  clear e_σ2
  refine lv_aload_n hx hb dX2_lays_5 rfl (lv_at hl 0 rfl) ?_
  refine lv_iload_n hx hb dX2_lays_6 rfl (lv_at hl 2 rfl) ?_
  refine mp_1 hx hb hts hown hE hap hR hS dX2_lays_7 (fun σ7 e_σ7 H locs hR hS => ?_)
  have hw := hw σ7 e_σ7
  clear e_σ7
  refine lv_aload_n hx hb dX2_lays_10 rfl (lv_at hl 0 rfl) ?_
  refine lv_lconst (v := 1) hx hb dX2_lays_11 (by decide) ?_
  refine mp_2 hx hb hts hown hE hap hR hS dX2_lays_12 (fun σ12 e_σ12 H locs hR hS => ?_)
  have hw := hw σ12 e_σ12
  clear e_σ12
  refine lv_iconst (v := 0) hx hb dX2_lays_15 (by decide) ?_
  refine lv_istore_n (lv' := [(3, .int 0), (0, .ref o), (1, .int x1), (2, .int x2)]) hx hb dX2_lays_16 rfl hl (by decide) rfl (fun ls hl => ?_)
  obtain ⟨n17, hw⟩ := hw
  exact hL17 x1 x2 n17 σ12 (0 : Int32) hw H locs ls hR hS (lv_sub hl [1, 2, 3, 0] rfl)
def wM_prime_j23  (Q : Int32 → mS → Prop) (σ : mS) (x1 : Int32)  : Prop :=
  ∀ y32_0 : Int32, y32_0 = (if x1 = (2 : Int32) then 28 else (if x1 = (3 : Int32) then 18 else (if x1 = (5 : Int32) then 12 else 10))) → wM_lays σ x1 y32_0 (fun σ62 => Q (mgi σ 0) σ62)
def wM_prime (σ : mS) (x1 : Int32) (Q : Int32 → mS → Prop) : Prop :=
  ((x1 = (2 : Int32) → (wM_prime_j23  Q σ x1)) ∧ (¬ x1 = (2 : Int32) → ((x1 = (3 : Int32) → (wM_prime_j23  Q σ x1)) ∧ (¬ x1 = (3 : Int32) → ((x1 = (5 : Int32) → (wM_prime_j23  Q σ x1)) ∧ (¬ x1 = (5 : Int32) → ((x1 = (7 : Int32) → (wM_prime_j23  Q σ x1)) ∧ (¬ x1 = (7 : Int32) → Q ((-1) : Int32) σ))))))))
set_option maxHeartbeats 4000000 in
theorem mM_prime (l : Launch) (G : mG) (o : Nat) (ρ : Nat → Nat) (hap : mAp o ρ) (σ : mS) (x1 : Int32) (Q : Int32 → mS → Prop) (hw : wM_prime σ x1 Q) : mMetI l G yX2_prime (ws_ yX2_prime cX2_prime 3 (some .int)) 1 23 o ρ [.ref o, .int x1] σ Q := by
  refine mo_I plain2 rfl (Nat.le_of_ble_eq_true rfl) ?_
  intro p e s R m args below meth c QQ X hRf hRl hret
  obtain ⟨hx, hb, hml, hown, hts, hE⟩ := id X
  have hJ23 : ∀ (σ : mS) (x1 : Int32), wM_prime_j23  Q σ x1 → ∀ (H : Heap) (locs : List Loc) (ls : Array Slot), mR G o ρ σ H → va_S (mA o ρ) s.heap H locs → lv_has ls 3 [(0, .ref o), (1, .int x1)] → W p l e R s m args below meth c H locs 0 0 QQ (F0 m 23 ls []) := by
    intro σ x1 hw H locs ls hR hS hl
    unfold wM_prime_j23 at hw
    refine lv_aload_n hx hb dX2_prime_23 rfl (lv_at hl 0 rfl) ?_
    refine mg_0 hx hb hts hown hE hR dX2_prime_24 ?_
    refine lv_istore_n (lv' := [(2, .int (mgi σ 0)), (0, .ref o), (1, .int x1)]) hx hb dX2_prime_27 rfl hl (by decide) rfl (fun ls hl => ?_)
    refine lv_aload_n hx hb dX2_prime_28 rfl (lv_at hl 1 rfl) ?_
    refine lv_iload_n hx hb dX2_prime_29 rfl (lv_at hl 2 rfl) ?_
    refine lv_iload_n hx hb dX2_prime_30 rfl (lv_at hl 2 rfl) ?_
    refine lv_iconst (v := 2) hx hb dX2_prime_31 (by decide) ?_
    have hK32 : ∀ (y32_0 : Int32), y32_0 = (if x1 = (2 : Int32) then 28 else (if x1 = (3 : Int32) then 18 else (if x1 = (5 : Int32) then 12 else 10))) → ∀ (ls : Array Slot), lv_has ls 3 [(2, .int (mgi σ 0))] → W p l e R s m args below meth c H locs 0 0 QQ (F0 m 62 ls [.int y32_0, .int x1, .ref o]) := by
      intro y32_0 e_y32_0 ls hl
      have hw := hw y32_0 e_y32_0
      refine mc_vv (As := [.int x1, .int y32_0]) (rest := []) X (mM_lays l G o ρ hap σ x1 y32_0 _ hw) (lw_V q1983 q1985 qs44 q_ini2 q1986) hd2_lays (mm_le hRf rfl) (mm_le hRl rfl) rfl rfl (Nat.le_of_ble_eq_true rfl) dX2_prime_62 hR hS hl.1 (fun σ62 H locs hw hR hS => ?_)
      refine lv_iload_n hx hb dX2_prime_65 rfl (lv_at hl 0 rfl) ?_
      exact hret _ _ _ _ _ _ hw hR hS dX2_prime_66
    refine lv_icmp_ne (tgt := 40) hx hb dX2_prime_32 (by decide) (fun c_32 => ?_) (fun c_32 => ?_)
    · refine lv_iload_n hx hb dX2_prime_40 rfl (lv_at hl 2 rfl) ?_
      refine lv_iconst (v := 3) hx hb dX2_prime_41 (by decide) ?_
      refine lv_icmp_ne (tgt := 50) hx hb dX2_prime_42 (by decide) (fun c_42 => ?_) (fun c_42 => ?_)
      · refine lv_iload_n hx hb dX2_prime_50 rfl (lv_at hl 2 rfl) ?_
        refine lv_iconst (v := 5) hx hb dX2_prime_51 (by decide) ?_
        refine lv_icmp_ne (tgt := 60) hx hb dX2_prime_52 (by decide) (fun c_52 => ?_) (fun c_52 => ?_)
        · refine lv_bipush (v := 10) hx hb dX2_prime_60 (by decide) ?_
          exact hK32 _ (((if_neg c_52).symm.trans (if_neg c_42).symm).trans (if_neg c_32).symm) ls (lv_sub hl [0] rfl)
        · refine lv_bipush (v := 12) hx hb dX2_prime_55 (by decide) ?_
          refine lv_goto (tgt := 62) hx hb dX2_prime_57 (by decide) ?_
          exact hK32 _ (((if_pos c_52).symm.trans (if_neg c_42).symm).trans (if_neg c_32).symm) ls (lv_sub hl [0] rfl)
      · refine lv_bipush (v := 18) hx hb dX2_prime_45 (by decide) ?_
        refine lv_goto (tgt := 62) hx hb dX2_prime_47 (by decide) ?_
        exact hK32 _ ((if_pos c_42).symm.trans (if_neg c_32).symm) ls (lv_sub hl [0] rfl)
    · refine lv_bipush (v := 28) hx hb dX2_prime_35 (by decide) ?_
      refine lv_goto (tgt := 62) hx hb dX2_prime_37 (by decide) ?_
      exact hK32 _ (if_pos c_32).symm ls (lv_sub hl [0] rfl)
  intro H ls hR hS hl
  have hl : lv_has ls 3 [(0, .ref o), (1, .int x1)] := hl
  generalize ([] : List Loc) = locs at hS ⊢
  unfold wM_prime at hw
  refine lv_iload_n hx hb dX2_prime_0 rfl (lv_at hl 1 rfl) ?_
  refine lv_iconst (v := 2) hx hb dX2_prime_1 (by decide) ?_
  refine lv_icmp_eq (tgt := 23) hx hb dX2_prime_2 (by decide) (fun c_2 => ?_) (fun c_2 => ?_)
  · have hw := hw.1 c_2
    exact hJ23 σ x1 hw H locs ls hR hS (lv_sub hl [0, 1] rfl)
  · have hw := hw.2 c_2
    refine lv_iload_n hx hb dX2_prime_5 rfl (lv_at hl 1 rfl) ?_
    refine lv_iconst (v := 3) hx hb dX2_prime_6 (by decide) ?_
    refine lv_icmp_eq (tgt := 23) hx hb dX2_prime_7 (by decide) (fun c_7 => ?_) (fun c_7 => ?_)
    · have hw := hw.1 c_7
      exact hJ23 σ x1 hw H locs ls hR hS (lv_sub hl [0, 1] rfl)
    · have hw := hw.2 c_7
      refine lv_iload_n hx hb dX2_prime_10 rfl (lv_at hl 1 rfl) ?_
      refine lv_iconst (v := 5) hx hb dX2_prime_11 (by decide) ?_
      refine lv_icmp_eq (tgt := 23) hx hb dX2_prime_12 (by decide) (fun c_12 => ?_) (fun c_12 => ?_)
      · have hw := hw.1 c_12
        exact hJ23 σ x1 hw H locs ls hR hS (lv_sub hl [0, 1] rfl)
      · have hw := hw.2 c_12
        refine lv_iload_n hx hb dX2_prime_15 rfl (lv_at hl 1 rfl) ?_
        refine lv_bipush (v := 7) hx hb dX2_prime_16 (by decide) ?_
        refine lv_icmp_eq (tgt := 23) hx hb dX2_prime_18 (by decide) (fun c_18 => ?_) (fun c_18 => ?_)
        · have hw := hw.1 c_18
          exact hJ23 σ x1 hw H locs ls hR hS (lv_sub hl [0, 1] rfl)
        · have hw := hw.2 c_18
          refine lv_iconst (v := (-1)) hx hb dX2_prime_21 (by decide) ?_
          exact hret _ _ _ _ _ _ hw hR hS dX2_prime_22
def wM_in  (x0 : Int64) (x2 : Int64) (x4 : Int64) (Q : Int32 → Prop) : Prop :=
  ∀ y2_0 : Int32, y2_0 = (if x0 < x2 then 0 else (if x4 < x0 then 0 else 1)) → (y2_0 = 0 ∨ y2_0 = 1) ∧ Q y2_0
set_option maxHeartbeats 4000000 in
theorem mM_in (l : Launch) (x0 : Int64) (x2 : Int64) (x4 : Int64) (Q : Int32 → Prop) (hw : wM_in x0 x2 x4 Q) : mMetS l yX2_in (ws_ yX2_in cX2_in 6 (some .boolean)) 0 0 [.long x0, .long x2, .long x4] Q := by
  refine mo_SZ plain2 (Nat.le_of_ble_eq_true rfl) ?_
  intro p e s R m args below meth c QQ X hRf hRl hret
  have X : sCtx p s m args c RX2 cX2_in 6 := X
  obtain ⟨hx, hb, hml, hown, hts⟩ := id X
  intro H ls hS hl
  have hl : lv_has ls 6 [(0, .long x0), (2, .long x2), (4, .long x4)] := hl
  generalize ([] : List Loc) = locs at hS ⊢
  unfold wM_in at hw
  refine lv_lload_n hx hb dX2_in_0 rfl (lv_at hl 0 rfl) ?_
  refine lv_lload_n hx hb dX2_in_1 rfl (lv_at hl 1 rfl) ?_
  have hK2 : ∀ (y2_0 : Int32), y2_0 = (if x0 < x2 then 0 else (if x4 < x0 then 0 else 1)) → ∀ (ls : Array Slot), lv_has ls 6 [] → W p l e R s m args below meth c H locs 0 0 QQ (F0 m 18 ls [.int y2_0]) := by
    intro y2_0 e_y2_0 ls hl
    have hw := hw y2_0 e_y2_0
    obtain ⟨hz, hw⟩ := hw
    exact hret _ _ _ _ _ hw hz hS dX2_in_18
  refine mm_lclt (p1 := 3) (tgt := 17) hx hb dX2_in_2 rfl dX2_in_3 (by decide) (fun c_2 => ?_) (fun c_2 => ?_)
  · refine lv_iconst (v := 0) hx hb dX2_in_17 (by decide) ?_
    exact hK2 _ (if_pos c_2).symm ls (lv_sub hl [] rfl)
  · refine lv_lload_n hx hb dX2_in_6 rfl (lv_at hl 0 rfl) ?_
    refine lv_lload hx hb dX2_in_7 (lv_at hl 2 rfl) ?_
    refine mm_lcgt (p1 := 10) (tgt := 17) hx hb dX2_in_9 rfl dX2_in_10 (by decide) (fun c_9 => ?_) (fun c_9 => ?_)
    · refine lv_iconst (v := 0) hx hb dX2_in_17 (by decide) ?_
      exact hK2 _ ((if_pos c_9).symm.trans (if_neg c_2).symm) ls (lv_sub hl [] rfl)
    · refine lv_iconst (v := 1) hx hb dX2_in_13 (by decide) ?_
      refine lv_goto (tgt := 18) hx hb dX2_in_14 (by decide) ?_
      exact hK2 _ ((if_neg c_9).symm.trans (if_neg c_2).symm) ls (lv_sub hl [] rfl)
def wM_feed (σ : mS) (x1 : Int32) (Q : Int32 → mS → Prop) : Prop :=
  wM_in (x1).toInt64 (0 : Int64) (127 : Int64) (fun r6 => ((r6 = 0 → Q ((-1) : Int32) σ) ∧ (¬ r6 = 0 → (((mgi σ 5) = (80 : Int32) → Q ((-4) : Int32) σ) ∧ (¬ (mgi σ 5) = (80 : Int32) → vp_in (mgi σ 5) 80 ∧ (∀ σ35 : mS, σ35 = mpa σ 4 (mgi σ 5).toNatClampNeg x1 → ∀ σ43 : mS, σ43 = mpi σ35 5 ((mgi σ35 5) + 1) → Q (mgi σ43 5) σ43))))))
set_option maxHeartbeats 4000000 in
theorem mM_feed (l : Launch) (G : mG) (o : Nat) (ρ : Nat → Nat) (hap : mAp o ρ) (σ : mS) (x1 : Int32) (Q : Int32 → mS → Prop) (hw : wM_feed σ x1 Q) : mMetI l G yX2_feed (ws_ yX2_feed cX2_feed 2 (some .int)) 1 25 o ρ [.ref o, .int x1] σ Q := by
  refine mo_I plain2 rfl (Nat.le_of_ble_eq_true rfl) ?_
  intro p e s R m args below meth c QQ X hRf hRl hret
  obtain ⟨hx, hb, hml, hown, hts, hE⟩ := id X
  intro H ls hR hS hl
  have hl : lv_has ls 2 [(0, .ref o), (1, .int x1)] := hl
  generalize ([] : List Loc) = locs at hS ⊢
  unfold wM_feed at hw
  refine lv_iload_n hx hb dX2_feed_0 rfl (lv_at hl 1 rfl) ?_
  refine lv_i2l hx hb dX2_feed_1 rfl ?_
  refine lv_lconst (v := 0) hx hb dX2_feed_2 (by decide) ?_
  refine lv_ldc2 (v := 127) hx hb hown (hts _ q2197) dX2_feed_3 ?_
  refine mc_si (As := [.long (x1).toInt64, .long (0 : Int64), .long (127 : Int64)]) (rest := []) X (mM_in l (x1).toInt64 (0 : Int64) (127 : Int64) _ hw) (lw_S q2198 q2199 q_ini2 q2200) hd2_in (mm_le hRf rfl) (mm_le hRl rfl) rfl rfl (Nat.le_of_ble_eq_true rfl) dX2_feed_6 hR hS hl.1 (fun r6 H locs hw hR hS => ?_)
  refine lv_if_ne (tgt := 14) hx hb dX2_feed_9 (by decide) (fun c_9 => ?_) (fun c_9 => ?_)
  · have hw := hw.2 c_9
    refine lv_aload_n hx hb dX2_feed_14 rfl (lv_at hl 0 rfl) ?_
    refine mg_5 hx hb hts hown hE hR dX2_feed_15 ?_
    refine lv_bipush (v := 80) hx hb dX2_feed_18 (by decide) ?_
    refine lv_icmp_ne (tgt := 26) hx hb dX2_feed_20 (by decide) (fun c_20 => ?_) (fun c_20 => ?_)
    · have hw := hw.2 c_20
      refine lv_aload_n hx hb dX2_feed_26 rfl (lv_at hl 0 rfl) ?_
      refine mg_4 hx hb hts hown hE hR dX2_feed_27 ?_
      refine lv_aload_n hx hb dX2_feed_30 rfl (lv_at hl 0 rfl) ?_
      refine mg_5 hx hb hts hown hE hR dX2_feed_31 ?_
      refine lv_iload_n hx hb dX2_feed_34 rfl (lv_at hl 1 rfl) ?_
      obtain ⟨hi_35, hw⟩ := hw
      refine mst_4 hx hb hE hap hR hS hi_35 dX2_feed_35 (fun σ35 e_σ35 H locs hR hS => ?_)
      have hw := hw σ35 e_σ35
      clear e_σ35
      refine lv_aload_n hx hb dX2_feed_36 rfl (lv_at hl 0 rfl) ?_
      refine lv_dup hx hb dX2_feed_37 rfl ?_
      refine mg_5 hx hb hts hown hE hR dX2_feed_38 ?_
      refine lv_iconst (v := 1) hx hb dX2_feed_41 (by decide) ?_
      refine lv_iadd hx hb dX2_feed_42 ?_
      refine mp_5 hx hb hts hown hE hap hR hS dX2_feed_43 (fun σ43 e_σ43 H locs hR hS => ?_)
      have hw := hw σ43 e_σ43
      clear e_σ43
      refine lv_aload_n hx hb dX2_feed_46 rfl (lv_at hl 0 rfl) ?_
      refine mg_5 hx hb hts hown hE hR dX2_feed_47 ?_
      exact hret _ _ _ _ _ _ hw hR hS dX2_feed_50
    · have hw := hw.1 c_20
      refine lv_bipush (v := (-4)) hx hb dX2_feed_23 (by decide) ?_
      exact hret _ _ _ _ _ _ hw hR hS dX2_feed_25
  · have hw := hw.1 c_9
    refine lv_iconst (v := (-1)) hx hb dX2_feed_12 (by decide) ?_
    exact hret _ _ _ _ _ _ hw hR hS dX2_feed_13
def wM_wipe (σ : mS)  (Q : Int32 → mS → Prop) : Prop :=
  ∀ σ7 : mS, σ7 = mpi σ 5 0 → Q (mgi σ 5) σ7
set_option maxHeartbeats 4000000 in
theorem mM_wipe (l : Launch) (G : mG) (o : Nat) (ρ : Nat → Nat) (hap : mAp o ρ) (σ : mS)  (Q : Int32 → mS → Prop) (hw : wM_wipe σ  Q) : mMetI l G yX2_wipe (ws_ yX2_wipe cX2_wipe 2 (some .int)) 0 0 o ρ [.ref o] σ Q := by
  refine mo_I plain2 rfl (Nat.le_of_ble_eq_true rfl) ?_
  intro p e s R m args below meth c QQ X hRf hRl hret
  obtain ⟨hx, hb, hml, hown, hts, hE⟩ := id X
  intro H ls hR hS hl
  have hl : lv_has ls 2 [(0, .ref o)] := hl
  generalize ([] : List Loc) = locs at hS ⊢
  unfold wM_wipe at hw
  refine lv_aload_n hx hb dX2_wipe_0 rfl (lv_at hl 0 rfl) ?_
  refine mg_5 hx hb hts hown hE hR dX2_wipe_1 ?_
  refine lv_istore_n (lv' := [(1, .int (mgi σ 5)), (0, .ref o)]) hx hb dX2_wipe_4 rfl hl (by decide) rfl (fun ls hl => ?_)
  refine lv_aload_n hx hb dX2_wipe_5 rfl (lv_at hl 1 rfl) ?_
  refine lv_iconst (v := 0) hx hb dX2_wipe_6 (by decide) ?_
  refine mp_5 hx hb hts hown hE hap hR hS dX2_wipe_7 (fun σ7 e_σ7 H locs hR hS => ?_)
  have hw := hw σ7 e_σ7
  clear e_σ7
  refine lv_iload_n hx hb dX2_wipe_10 rfl (lv_at hl 0 rfl) ?_
  exact hret _ _ _ _ _ _ hw hR hS dX2_wipe_11
def wM_isSlot  (x0 : Int32) (Q : Int32 → Prop) : Prop :=
  ∀ y1_0 : Int32, y1_0 = (if x0 < 0 then 0 else (if (5 : Int32) ≤ x0 then 0 else 1)) → (y1_0 = 0 ∨ y1_0 = 1) ∧ Q y1_0
set_option maxHeartbeats 4000000 in
theorem mM_isSlot (l : Launch) (x0 : Int32) (Q : Int32 → Prop) (hw : wM_isSlot x0 Q) : mMetS l yX2_isSlot (ws_ yX2_isSlot cX2_isSlot 1 (some .boolean)) 0 0 [.int x0] Q := by
  refine mo_SZ plain2 (Nat.le_of_ble_eq_true rfl) ?_
  intro p e s R m args below meth c QQ X hRf hRl hret
  have X : sCtx p s m args c RX2 cX2_isSlot 1 := X
  obtain ⟨hx, hb, hml, hown, hts⟩ := id X
  intro H ls hS hl
  have hl : lv_has ls 1 [(0, .int x0)] := hl
  generalize ([] : List Loc) = locs at hS ⊢
  unfold wM_isSlot at hw
  refine lv_iload_n hx hb dX2_isSlot_0 rfl (lv_at hl 0 rfl) ?_
  have hK1 : ∀ (y1_0 : Int32), y1_0 = (if x0 < 0 then 0 else (if (5 : Int32) ≤ x0 then 0 else 1)) → ∀ (ls : Array Slot), lv_has ls 1 [] → W p l e R s m args below meth c H locs 0 0 QQ (F0 m 14 ls [.int y1_0]) := by
    intro y1_0 e_y1_0 ls hl
    have hw := hw y1_0 e_y1_0
    obtain ⟨hz, hw⟩ := hw
    exact hret _ _ _ _ _ hw hz hS dX2_isSlot_14
  refine lv_if_lt (tgt := 13) hx hb dX2_isSlot_1 (by decide) (fun c_1 => ?_) (fun c_1 => ?_)
  · refine lv_iconst (v := 0) hx hb dX2_isSlot_13 (by decide) ?_
    exact hK1 _ (if_pos c_1).symm ls (lv_sub hl [] rfl)
  · refine lv_iload_n hx hb dX2_isSlot_4 rfl (lv_at hl 0 rfl) ?_
    refine lv_iconst (v := 5) hx hb dX2_isSlot_5 (by decide) ?_
    refine lv_icmp_ge (tgt := 13) hx hb dX2_isSlot_6 (by decide) (fun c_6 => ?_) (fun c_6 => ?_)
    · refine lv_iconst (v := 0) hx hb dX2_isSlot_13 (by decide) ?_
      exact hK1 _ ((if_pos c_6).symm.trans (if_neg c_1).symm) ls (lv_sub hl [] rfl)
    · refine lv_iconst (v := 1) hx hb dX2_isSlot_9 (by decide) ?_
      refine lv_goto (tgt := 14) hx hb dX2_isSlot_10 (by decide) ?_
      exact hK1 _ ((if_neg c_6).symm.trans (if_neg c_1).symm) ls (lv_sub hl [] rfl)
def wM_here (σ : mS)  (Q : Int32 → Prop) : Prop :=
  (((mgi σ 5) ≤ (mgi σ 6) → True) ∧ (¬ (mgi σ 5) ≤ (mgi σ 6) → (vp_in (mgi σ 6) 80 ∧ True))) ∧ (∀ y8_0 : Int32, y8_0 = (if (mgi σ 5) ≤ (mgi σ 6) then (-1) else (mga σ 4 (mgi σ 6).toNatClampNeg)) → Q y8_0)
set_option maxHeartbeats 4000000 in
theorem mM_here (l : Launch) (G : mG) (o : Nat) (ρ : Nat → Nat) (hap : mAp o ρ) (σ : mS)  (Q : Int32 → Prop) (hw : wM_here σ  Q) : mMetI l G yX2_here (ws_ yX2_here cX2_here 1 (some .int)) 0 0 o ρ [.ref o] σ (fun r τ => σ = τ ∧ Q r) := by
  refine mo_I plain2 rfl (Nat.le_of_ble_eq_true rfl) ?_
  intro p e s R m args below meth c QQ X hRf hRl hret
  obtain ⟨hx, hb, hml, hown, hts, hE⟩ := id X
  intro H ls hR hS hl
  have hl : lv_has ls 1 [(0, .ref o)] := hl
  generalize ([] : List Loc) = locs at hS ⊢
  unfold wM_here at hw
  refine lv_aload_n hx hb dX2_here_0 rfl (lv_at hl 0 rfl) ?_
  refine mg_6 hx hb hts hown hE hR dX2_here_1 ?_
  refine lv_aload_n hx hb dX2_here_4 rfl (lv_at hl 0 rfl) ?_
  refine mg_5 hx hb hts hown hE hR dX2_here_5 ?_
  obtain ⟨hg, hw⟩ := hw
  have hK8 : ∀ (y8_0 : Int32), y8_0 = (if (mgi σ 5) ≤ (mgi σ 6) then (-1) else (mga σ 4 (mgi σ 6).toNatClampNeg)) → ∀ (ls : Array Slot), lv_has ls 1 [] → W p l e R s m args below meth c H locs 0 0 QQ (F0 m 24 ls [.int y8_0]) := by
    intro y8_0 e_y8_0 ls hl
    have hw := hw y8_0 e_y8_0
    exact hret _ _ _ _ _ _ ⟨rfl, hw⟩ hR hS dX2_here_24
  refine lv_icmp_ge (tgt := 23) hx hb dX2_here_8 (by decide) (fun c_8 => ?_) (fun c_8 => ?_)
  · have hg := hg.1 c_8
    refine lv_iconst (v := (-1)) hx hb dX2_here_23 (by decide) ?_
    exact hK8 _ (if_pos c_8).symm ls (lv_sub hl [] rfl)
  · have hg := hg.2 c_8
    refine lv_aload_n hx hb dX2_here_11 rfl (lv_at hl 0 rfl) ?_
    refine mg_4 hx hb hts hown hE hR dX2_here_12 ?_
    refine lv_aload_n hx hb dX2_here_15 rfl (lv_at hl 0 rfl) ?_
    refine mg_6 hx hb hts hown hE hR dX2_here_16 ?_
    obtain ⟨hi_19, hg⟩ := hg
    refine ma_4 hx hb hE hR hi_19 dX2_here_19 ?_
    refine lv_goto (tgt := 24) hx hb dX2_here_20 (by decide) ?_
    exact hK8 _ (if_neg c_8).symm ls (lv_sub hl [] rfl)
def wM_takes (σ : mS) (x1 : Int32) (Q : Int32 → mS → Prop) : Prop :=
  wM_here σ  (fun r1 => ∀ y5_0 : Int32, y5_0 = (if r1 = x1 then 1 else 0) → ∀ y20_0 : Int32, y20_0 = (if y5_0 = 0 then 0 else 1) → ∀ σ29 : mS, σ29 = mpi σ 6 ((mgi σ 6) + y20_0) → (y5_0 = 0 ∨ y5_0 = 1) ∧ Q y5_0 σ29)
set_option maxHeartbeats 4000000 in
theorem mM_takes (l : Launch) (G : mG) (o : Nat) (ρ : Nat → Nat) (hap : mAp o ρ) (σ : mS) (x1 : Int32) (Q : Int32 → mS → Prop) (hw : wM_takes σ x1 Q) : mMetI l G yX2_takes (ws_ yX2_takes cX2_takes 3 (some .boolean)) 1 20 o ρ [.ref o, .int x1] σ Q := by
  refine mo_Z plain2 rfl (Nat.le_of_ble_eq_true rfl) ?_
  intro p e s R m args below meth c QQ X hRf hRl hret
  obtain ⟨hx, hb, hml, hown, hts, hE⟩ := id X
  intro H ls hR hS hl
  have hl : lv_has ls 3 [(0, .ref o), (1, .int x1)] := hl
  generalize ([] : List Loc) = locs at hS ⊢
  unfold wM_takes at hw
  refine lv_aload_n hx hb dX2_takes_0 rfl (lv_at hl 0 rfl) ?_
  refine mc_vir (As := []) (rest := []) X (mM_here l G o ρ hap σ  _ hw) (lw_V q2220 q2222 qs47 q_ini2 q2223) hd2_here (mm_le hRf rfl) (mm_le hRl rfl) rfl rfl (Nat.le_of_ble_eq_true rfl) dX2_takes_1 hR hS hl.1 (fun r1 H locs hw hR hS => ?_)
  refine lv_iload_n hx hb dX2_takes_4 rfl (lv_at hl 1 rfl) ?_
  have hK5 : ∀ (y5_0 : Int32), y5_0 = (if r1 = x1 then 1 else 0) → ∀ (ls : Array Slot), lv_has ls 3 [(0, .ref o)] → W p l e R s m args below meth c H locs 0 0 QQ (F0 m 13 ls [.int y5_0]) := by
    intro y5_0 e_y5_0 ls hl
    have hw := hw y5_0 e_y5_0
    refine lv_istore_n (lv' := [(2, .int y5_0), (0, .ref o)]) hx hb dX2_takes_13 rfl hl (by decide) rfl (fun ls hl => ?_)
    refine lv_aload_n hx hb dX2_takes_14 rfl (lv_at hl 1 rfl) ?_
    refine lv_dup hx hb dX2_takes_15 rfl ?_
    refine mg_6 hx hb hts hown hE hR dX2_takes_16 ?_
    refine lv_iload_n hx hb dX2_takes_19 rfl (lv_at hl 0 rfl) ?_
    have hK20 : ∀ (y20_0 : Int32), y20_0 = (if y5_0 = 0 then 0 else 1) → ∀ (ls : Array Slot), lv_has ls 3 [(2, .int y5_0)] → W p l e R s m args below meth c H locs 0 0 QQ (F0 m 28 ls [.int y20_0, .int (mgi σ 6), .ref o]) := by
      intro y20_0 e_y20_0 ls hl
      have hw := hw y20_0 e_y20_0
      refine lv_iadd hx hb dX2_takes_28 ?_
      refine mp_6 hx hb hts hown hE hap hR hS dX2_takes_29 (fun σ29 e_σ29 H locs hR hS => ?_)
      have hw := hw σ29 e_σ29
      clear e_σ29
      refine lv_iload_n hx hb dX2_takes_32 rfl (lv_at hl 0 rfl) ?_
      obtain ⟨hz, hw⟩ := hw
      exact hret _ _ _ _ _ _ hw hz hR hS dX2_takes_33
    refine lv_if_eq (tgt := 27) hx hb dX2_takes_20 (by decide) (fun c_20 => ?_) (fun c_20 => ?_)
    · refine lv_iconst (v := 0) hx hb dX2_takes_27 (by decide) ?_
      exact hK20 _ (if_pos c_20).symm ls (lv_sub hl [0] rfl)
    · refine lv_iconst (v := 1) hx hb dX2_takes_23 (by decide) ?_
      refine lv_goto (tgt := 28) hx hb dX2_takes_24 (by decide) ?_
      exact hK20 _ (if_neg c_20).symm ls (lv_sub hl [0] rfl)
  refine lv_icmp_ne (tgt := 12) hx hb dX2_takes_5 (by decide) (fun c_5 => ?_) (fun c_5 => ?_)
  · refine lv_iconst (v := 0) hx hb dX2_takes_12 (by decide) ?_
    exact hK5 _ (if_neg c_5).symm ls (lv_sub hl [0] rfl)
  · refine lv_iconst (v := 1) hx hb dX2_takes_8 (by decide) ?_
    refine lv_goto (tgt := 13) hx hb dX2_takes_9 (by decide) ?_
    exact hK5 _ (if_pos c_5).symm ls (lv_sub hl [0] rfl)
def wM_isDigit (σ : mS)  (Q : Int32 → Prop) : Prop :=
  wM_here σ  (fun r1 => wM_in (r1).toInt64 (48 : Int64) (57 : Int64) (fun r11 => (r11 = 0 ∨ r11 = 1) ∧ Q r11))
set_option maxHeartbeats 4000000 in
theorem mM_isDigit (l : Launch) (G : mG) (o : Nat) (ρ : Nat → Nat) (hap : mAp o ρ) (σ : mS)  (Q : Int32 → Prop) (hw : wM_isDigit σ  Q) : mMetI l G yX2_isDigit (ws_ yX2_isDigit cX2_isDigit 1 (some .boolean)) 1 25 o ρ [.ref o] σ (fun r τ => σ = τ ∧ Q r) := by
  refine mo_Z plain2 rfl (Nat.le_of_ble_eq_true rfl) ?_
  intro p e s R m args below meth c QQ X hRf hRl hret
  obtain ⟨hx, hb, hml, hown, hts, hE⟩ := id X
  intro H ls hR hS hl
  have hl : lv_has ls 1 [(0, .ref o)] := hl
  generalize ([] : List Loc) = locs at hS ⊢
  unfold wM_isDigit at hw
  refine lv_aload_n hx hb dX2_isDigit_0 rfl (lv_at hl 0 rfl) ?_
  refine mc_vir (As := []) (rest := []) X (mM_here l G o ρ hap σ  _ hw) (lw_V q2220 q2222 qs47 q_ini2 q2223) hd2_here (mm_le hRf rfl) (mm_le hRl rfl) rfl rfl (Nat.le_of_ble_eq_true rfl) dX2_isDigit_1 hR hS hl.1 (fun r1 H locs hw hR hS => ?_)
  refine lv_i2l hx hb dX2_isDigit_4 rfl ?_
  refine lv_ldc2 (v := 48) hx hb hown (hts _ q2232) dX2_isDigit_5 ?_
  refine lv_ldc2 (v := 57) hx hb hown (hts _ q2233) dX2_isDigit_8 ?_
  refine mc_si (As := [.long (r1).toInt64, .long (48 : Int64), .long (57 : Int64)]) (rest := []) X (mM_in l (r1).toInt64 (48 : Int64) (57 : Int64) _ hw) (lw_S q2198 q2199 q_ini2 q2200) hd2_in (mm_le hRf rfl) (mm_le hRl rfl) rfl rfl (Nat.le_of_ble_eq_true rfl) dX2_isDigit_11 hR hS hl.1 (fun r11 H locs hw hR hS => ?_)
  obtain ⟨hz, hw⟩ := hw
  exact hret _ _ _ _ _ _ ⟨rfl, hw⟩ hz hR hS dX2_isDigit_14
def wM_readsPower (σ : mS)  (Q : Int32 → mS → Prop) : Prop :=
  wM_takes σ (120 : Int32) (fun r3 σ3 => ((r3 = 0 → Q ((-1) : Int32) σ3) ∧ (¬ r3 = 0 → wM_takes σ3 (94 : Int32) (fun r14 σ14 => ((r14 = 0 → Q (1 : Int32) σ14) ∧ (¬ r14 = 0 → wM_here σ14  (fun r23 => wM_in (r23).toInt64 (48 : Int64) (56 : Int64) (fun r33 => ((r33 = 0 → Q ((-1) : Int32) σ14) ∧ (¬ r33 = 0 → ∀ σ48 : mS, σ48 = mpi σ14 6 ((mgi σ14 6) + 1) → vp_in ((mgi σ48 6) - 1) 80 ∧ (Q ((mga σ48 4 ((mgi σ48 6) - 1).toNatClampNeg) - 48) σ48)))))))))))
set_option maxHeartbeats 4000000 in
theorem mM_readsPower (l : Launch) (G : mG) (o : Nat) (ρ : Nat → Nat) (hap : mAp o ρ) (σ : mS)  (Q : Int32 → mS → Prop) (hw : wM_readsPower σ  Q) : mMetI l G yX2_readsPower (ws_ yX2_readsPower cX2_readsPower 1 (some .int)) 2 42 o ρ [.ref o] σ Q := by
  refine mo_I plain2 rfl (Nat.le_of_ble_eq_true rfl) ?_
  intro p e s R m args below meth c QQ X hRf hRl hret
  obtain ⟨hx, hb, hml, hown, hts, hE⟩ := id X
  intro H ls hR hS hl
  have hl : lv_has ls 1 [(0, .ref o)] := hl
  generalize ([] : List Loc) = locs at hS ⊢
  unfold wM_readsPower at hw
  refine lv_aload_n hx hb dX2_readsPower_0 rfl (lv_at hl 0 rfl) ?_
  refine lv_bipush (v := 120) hx hb dX2_readsPower_1 (by decide) ?_
  refine mc_vi (As := [.int (120 : Int32)]) (rest := []) X (mM_takes l G o ρ hap σ (120 : Int32) _ hw) (lw_V q2216 q2218 qs46 q_ini2 q2219) hd2_takes (mm_le hRf rfl) (mm_le hRl rfl) rfl rfl (Nat.le_of_ble_eq_true rfl) dX2_readsPower_3 hR hS hl.1 (fun r3 σ3 H locs hw hR hS => ?_)
  refine lv_if_ne (tgt := 11) hx hb dX2_readsPower_6 (by decide) (fun c_6 => ?_) (fun c_6 => ?_)
  · have hw := hw.2 c_6
    refine lv_aload_n hx hb dX2_readsPower_11 rfl (lv_at hl 0 rfl) ?_
    refine lv_bipush (v := 94) hx hb dX2_readsPower_12 (by decide) ?_
    refine mc_vi (As := [.int (94 : Int32)]) (rest := []) X (mM_takes l G o ρ hap σ3 (94 : Int32) _ hw) (lw_V q2216 q2218 qs46 q_ini2 q2219) hd2_takes (mm_le hRf rfl) (mm_le hRl rfl) rfl rfl (Nat.le_of_ble_eq_true rfl) dX2_readsPower_14 hR hS hl.1 (fun r14 σ14 H locs hw hR hS => ?_)
    refine lv_if_ne (tgt := 22) hx hb dX2_readsPower_17 (by decide) (fun c_17 => ?_) (fun c_17 => ?_)
    · have hw := hw.2 c_17
      refine lv_aload_n hx hb dX2_readsPower_22 rfl (lv_at hl 0 rfl) ?_
      refine mc_vir (As := []) (rest := []) X (mM_here l G o ρ hap σ14  _ hw) (lw_V q2220 q2222 qs47 q_ini2 q2223) hd2_here (mm_le hRf rfl) (mm_le hRl rfl) rfl rfl (Nat.le_of_ble_eq_true rfl) dX2_readsPower_23 hR hS hl.1 (fun r23 H locs hw hR hS => ?_)
      refine lv_i2l hx hb dX2_readsPower_26 rfl ?_
      refine lv_ldc2 (v := 48) hx hb hown (hts _ q2232) dX2_readsPower_27 ?_
      refine lv_ldc2 (v := 56) hx hb hown (hts _ q2238) dX2_readsPower_30 ?_
      refine mc_si (As := [.long (r23).toInt64, .long (48 : Int64), .long (56 : Int64)]) (rest := []) X (mM_in l (r23).toInt64 (48 : Int64) (56 : Int64) _ hw) (lw_S q2198 q2199 q_ini2 q2200) hd2_in (mm_le hRf rfl) (mm_le hRl rfl) rfl rfl (Nat.le_of_ble_eq_true rfl) dX2_readsPower_33 hR hS hl.1 (fun r33 H locs hw hR hS => ?_)
      refine lv_if_ne (tgt := 41) hx hb dX2_readsPower_36 (by decide) (fun c_36 => ?_) (fun c_36 => ?_)
      · have hw := hw.2 c_36
        refine lv_aload_n hx hb dX2_readsPower_41 rfl (lv_at hl 0 rfl) ?_
        refine lv_dup hx hb dX2_readsPower_42 rfl ?_
        refine mg_6 hx hb hts hown hE hR dX2_readsPower_43 ?_
        refine lv_iconst (v := 1) hx hb dX2_readsPower_46 (by decide) ?_
        refine lv_iadd hx hb dX2_readsPower_47 ?_
        refine mp_6 hx hb hts hown hE hap hR hS dX2_readsPower_48 (fun σ48 e_σ48 H locs hR hS => ?_)
        have hw := hw σ48 e_σ48
        clear e_σ48
        refine lv_aload_n hx hb dX2_readsPower_51 rfl (lv_at hl 0 rfl) ?_
        refine mg_4 hx hb hts hown hE hR dX2_readsPower_52 ?_
        refine lv_aload_n hx hb dX2_readsPower_55 rfl (lv_at hl 0 rfl) ?_
        refine mg_6 hx hb hts hown hE hR dX2_readsPower_56 ?_
        refine lv_iconst (v := 1) hx hb dX2_readsPower_59 (by decide) ?_
        refine lv_isub hx hb dX2_readsPower_60 ?_
        obtain ⟨hi_61, hw⟩ := hw
        refine ma_4 hx hb hE hR hi_61 dX2_readsPower_61 ?_
        refine lv_bipush (v := 48) hx hb dX2_readsPower_62 (by decide) ?_
        refine lv_isub hx hb dX2_readsPower_64 ?_
        exact hret _ _ _ _ _ _ hw hR hS dX2_readsPower_65
      · have hw := hw.1 c_36
        refine lv_iconst (v := (-1)) hx hb dX2_readsPower_39 (by decide) ?_
        exact hret _ _ _ _ _ _ hw hR hS dX2_readsPower_40
    · have hw := hw.1 c_17
      refine lv_iconst (v := 1) hx hb dX2_readsPower_20 (by decide) ?_
      exact hret _ _ _ _ _ _ hw hR hS dX2_readsPower_21
  · have hw := hw.1 c_6
    refine lv_iconst (v := (-1)) hx hb dX2_readsPower_9 (by decide) ?_
    exact hret _ _ _ _ _ _ hw hR hS dX2_readsPower_10
def wM_readsTerm_j89  (Q : Int32 → mS → Prop) (σ : mS) (x1 : Int32) (x2 : Int32) (x3 : Int32)  : Prop :=
  ((0 ≤ x3 → vp_in x3 9 ∧ (vp_in x3 9 ∧ (∀ σ107 : mS, σ107 = mpl σ 7 x3.toNatClampNeg ((mgl σ 7 x3.toNatClampNeg) + (x1 * x2).toInt64) → Q (1 : Int32) σ107))) ∧ (¬ 0 ≤ x3 → Q (0 : Int32) σ))
def wM_readsTerm_j80  (Q : Int32 → mS → Prop) (σ : mS) (x1 : Int32) (x2 : Int32) (s0 : Int32) : Prop :=
  (wM_readsTerm_j89  Q σ x1 x2 s0)
def wM_readsTerm_j63  (Q : Int32 → mS → Prop) (σ : mS) (x1 : Int32) (x2 : Int32)  : Prop :=
  wM_takes σ (42 : Int32) (fun r66 σ66 => ((r66 = 0 → (wM_readsTerm_j80  Q σ66 x1 x2 (0 : Int32))) ∧ (¬ r66 = 0 → wM_readsPower σ66  (fun r73 σ73 => (wM_readsTerm_j80  Q σ73 x1 x2 r73)))))
def wM_readsTerm_l16  (Q : Int32 → mS → Prop)  (x1 : Int32) : Nat → mS → Int32 → Int32 → Prop
  | 0, _, _, _ => False
  | n + 1, σ, x2, x4 => (((4 : Int32) ≤ x4 → (wM_readsTerm_j63  Q σ x1 x2)) ∧ (¬ (4 : Int32) ≤ x4 → wM_isDigit σ  (fun r23 => ((r23 = 0 → (wM_readsTerm_j63  Q σ x1 x2)) ∧ (¬ r23 = 0 → vp_in (mgi σ 6) 80 ∧ (∀ σ54 : mS, σ54 = mpi σ 6 ((mgi σ 6) + 1) → wM_readsTerm_l16  Q  x1 n σ54 (((10 * x2) + (mga σ 4 (mgi σ 6).toNatClampNeg)) - 48) (x4 + 1)))))))
def wM_readsTerm (σ : mS) (x1 : Int32) (Q : Int32 → mS → Prop) : Prop :=
  wM_isDigit σ  (fun r5 => ((r5 = 0 → wM_readsPower σ  (fun r85 σ85 => (wM_readsTerm_j89  Q σ85 x1 (1 : Int32) r85))) ∧ (¬ r5 = 0 → (∃ k16 : Nat, wM_readsTerm_l16  Q  x1 k16 σ (0 : Int32) (0 : Int32)))))
set_option maxHeartbeats 4000000 in
theorem mM_readsTerm (l : Launch) (G : mG) (o : Nat) (ρ : Nat → Nat) (hap : mAp o ρ) (σ : mS) (x1 : Int32) (Q : Int32 → mS → Prop) (hw : wM_readsTerm σ x1 Q) : mMetI l G yX2_readsTerm (ws_ yX2_readsTerm cX2_readsTerm 5 (some .boolean)) 3 62 o ρ [.ref o, .int x1] σ Q := by
  refine mo_Z plain2 rfl (Nat.le_of_ble_eq_true rfl) ?_
  intro p e s R m args below meth c QQ X hRf hRl hret
  obtain ⟨hx, hb, hml, hown, hts, hE⟩ := id X
  have hJ89 : ∀ (σ : mS) (x1 : Int32) (x2 : Int32) (x3 : Int32), wM_readsTerm_j89  Q σ x1 x2 x3 → ∀ (H : Heap) (locs : List Loc) (ls : Array Slot), mR G o ρ σ H → va_S (mA o ρ) s.heap H locs → lv_has ls 5 [(0, .ref o), (1, .int x1), (2, .int x2), (3, .int x3)] → W p l e R s m args below meth c H locs 0 0 QQ (F0 m 89 ls []) := by
    intro σ x1 x2 x3 hw H locs ls hR hS hl
    unfold wM_readsTerm_j89 at hw
    refine lv_iload_n hx hb dX2_readsTerm_89 rfl (lv_at hl 3 rfl) ?_
    refine lv_if_ge (tgt := 95) hx hb dX2_readsTerm_90 (by decide) (fun c_90 => ?_) (fun c_90 => ?_)
    · have hw := hw.1 c_90
      refine lv_aload_n hx hb dX2_readsTerm_95 rfl (lv_at hl 0 rfl) ?_
      refine mg_7 hx hb hts hown hE hR dX2_readsTerm_96 ?_
      refine lv_iload_n hx hb dX2_readsTerm_99 rfl (lv_at hl 3 rfl) ?_
      refine lv_dup2_11 hx hb dX2_readsTerm_100 rfl rfl ?_
      obtain ⟨hi_101, hw⟩ := hw
      refine ma_7 hx hb hE hR hi_101 dX2_readsTerm_101 ?_
      refine lv_iload_n hx hb dX2_readsTerm_102 rfl (lv_at hl 1 rfl) ?_
      refine lv_iload_n hx hb dX2_readsTerm_103 rfl (lv_at hl 2 rfl) ?_
      refine lv_imul hx hb dX2_readsTerm_104 ?_
      refine lv_i2l hx hb dX2_readsTerm_105 rfl ?_
      refine lv_ladd hx hb dX2_readsTerm_106 ?_
      obtain ⟨hi_107, hw⟩ := hw
      refine mst_7 hx hb hE hap hR hS hi_107 dX2_readsTerm_107 (fun σ107 e_σ107 H locs hR hS => ?_)
      have hw := hw σ107 e_σ107
      clear e_σ107
      refine lv_iconst (v := 1) hx hb dX2_readsTerm_108 (by decide) ?_
      exact hret _ _ _ _ _ _ hw (by decide) hR hS dX2_readsTerm_109
    · have hw := hw.2 c_90
      refine lv_iconst (v := 0) hx hb dX2_readsTerm_93 (by decide) ?_
      exact hret _ _ _ _ _ _ hw (by decide) hR hS dX2_readsTerm_94
  have hJ80 : ∀ (σ : mS) (x1 : Int32) (x2 : Int32) (s0 : Int32), wM_readsTerm_j80  Q σ x1 x2 s0 → ∀ (H : Heap) (locs : List Loc) (ls : Array Slot), mR G o ρ σ H → va_S (mA o ρ) s.heap H locs → lv_has ls 5 [(0, .ref o), (1, .int x1), (2, .int x2)] → W p l e R s m args below meth c H locs 0 0 QQ (F0 m 80 ls [.int s0]) := by
    intro σ x1 x2 s0 hw H locs ls hR hS hl
    unfold wM_readsTerm_j80 at hw
    refine lv_istore_n (lv' := [(3, .int s0), (0, .ref o), (1, .int x1), (2, .int x2)]) hx hb dX2_readsTerm_80 rfl hl (by decide) rfl (fun ls hl => ?_)
    refine lv_goto (tgt := 89) hx hb dX2_readsTerm_81 (by decide) ?_
    exact hJ89 σ x1 x2 s0 hw H locs ls hR hS (lv_sub hl [1, 2, 3, 0] rfl)
  have hJ63 : ∀ (σ : mS) (x1 : Int32) (x2 : Int32), wM_readsTerm_j63  Q σ x1 x2 → ∀ (H : Heap) (locs : List Loc) (ls : Array Slot), mR G o ρ σ H → va_S (mA o ρ) s.heap H locs → lv_has ls 5 [(0, .ref o), (1, .int x1), (2, .int x2)] → W p l e R s m args below meth c H locs 0 0 QQ (F0 m 63 ls []) := by
    intro σ x1 x2 hw H locs ls hR hS hl
    unfold wM_readsTerm_j63 at hw
    refine lv_aload_n hx hb dX2_readsTerm_63 rfl (lv_at hl 0 rfl) ?_
    refine lv_bipush (v := 42) hx hb dX2_readsTerm_64 (by decide) ?_
    refine mc_vi (As := [.int (42 : Int32)]) (rest := []) X (mM_takes l G o ρ hap σ (42 : Int32) _ hw) (lw_V q2216 q2218 qs46 q_ini2 q2219) hd2_takes (mm_le hRf rfl) (mm_le hRl rfl) rfl rfl (Nat.le_of_ble_eq_true rfl) dX2_readsTerm_66 hR hS hl.1 (fun r66 σ66 H locs hw hR hS => ?_)
    refine lv_if_eq (tgt := 79) hx hb dX2_readsTerm_69 (by decide) (fun c_69 => ?_) (fun c_69 => ?_)
    · have hw := hw.1 c_69
      refine lv_iconst (v := 0) hx hb dX2_readsTerm_79 (by decide) ?_
      exact hJ80 σ66 x1 x2 (0 : Int32) hw H locs ls hR hS (lv_sub hl [0, 1, 2] rfl)
    · have hw := hw.2 c_69
      refine lv_aload_n hx hb dX2_readsTerm_72 rfl (lv_at hl 0 rfl) ?_
      refine mc_vi (As := []) (rest := []) X (mM_readsPower l G o ρ hap σ66  _ hw) (lw_V q2234 q2236 qs50 q_ini2 q2237) hd2_readsPower (mm_le hRf rfl) (mm_le hRl rfl) rfl rfl (Nat.le_of_ble_eq_true rfl) dX2_readsTerm_73 hR hS hl.1 (fun r73 σ73 H locs hw hR hS => ?_)
      refine lv_goto (tgt := 80) hx hb dX2_readsTerm_76 (by decide) ?_
      exact hJ80 σ73 x1 x2 r73 hw H locs ls hR hS (lv_sub hl [0, 1, 2] rfl)
  have hL16 : ∀ (x1 : Int32) (n16 : Nat) (σ : mS) (x2 : Int32) (x4 : Int32), wM_readsTerm_l16  Q  x1 n16 σ x2 x4 → ∀ (H : Heap) (locs : List Loc) (ls : Array Slot), mR G o ρ σ H → va_S (mA o ρ) s.heap H locs → lv_has ls 5 [(0, .ref o), (1, .int x1), (2, .int x2), (4, .int x4)] → W p l e R s m args below meth c H locs 0 0 QQ (F0 m 16 ls []) := by
    intro x1 n16
    induction n16 with
    | zero => intro σ x2 x4 hw; exact hw.elim
    | succ n16 ih16 =>
      intro σ x2 x4 hw H locs ls hR hS hl
      rw [wM_readsTerm_l16] at hw
      refine lv_iload hx hb dX2_readsTerm_16 (lv_at hl 3 rfl) ?_
      refine lv_iconst (v := 4) hx hb dX2_readsTerm_18 (by decide) ?_
      refine lv_icmp_ge (tgt := 63) hx hb dX2_readsTerm_19 (by decide) (fun c_19 => ?_) (fun c_19 => ?_)
      · have hw := hw.1 c_19
        exact hJ63 σ x1 x2 hw H locs ls hR hS (lv_sub hl [0, 1, 2] rfl)
      · have hw := hw.2 c_19
        refine lv_aload_n hx hb dX2_readsTerm_22 rfl (lv_at hl 0 rfl) ?_
        refine mc_vir (As := []) (rest := []) X (mM_isDigit l G o ρ hap σ  _ hw) (lw_V q2228 q2230 qs49 q_ini2 q2231) hd2_isDigit (mm_le hRf rfl) (mm_le hRl rfl) rfl rfl (Nat.le_of_ble_eq_true rfl) dX2_readsTerm_23 hR hS hl.1 (fun r23 H locs hw hR hS => ?_)
        refine lv_if_eq (tgt := 63) hx hb dX2_readsTerm_26 (by decide) (fun c_26 => ?_) (fun c_26 => ?_)
        · have hw := hw.1 c_26
          exact hJ63 σ x1 x2 hw H locs ls hR hS (lv_sub hl [0, 1, 2] rfl)
        · have hw := hw.2 c_26
          refine lv_bipush (v := 10) hx hb dX2_readsTerm_29 (by decide) ?_
          refine lv_iload_n hx hb dX2_readsTerm_31 rfl (lv_at hl 2 rfl) ?_
          refine lv_imul hx hb dX2_readsTerm_32 ?_
          refine lv_aload_n hx hb dX2_readsTerm_33 rfl (lv_at hl 0 rfl) ?_
          refine mg_4 hx hb hts hown hE hR dX2_readsTerm_34 ?_
          refine lv_aload_n hx hb dX2_readsTerm_37 rfl (lv_at hl 0 rfl) ?_
          refine mg_6 hx hb hts hown hE hR dX2_readsTerm_38 ?_
          obtain ⟨hi_41, hw⟩ := hw
          refine ma_4 hx hb hE hR hi_41 dX2_readsTerm_41 ?_
          refine lv_iadd hx hb dX2_readsTerm_42 ?_
          refine lv_bipush (v := 48) hx hb dX2_readsTerm_43 (by decide) ?_
          refine lv_isub hx hb dX2_readsTerm_45 ?_
          refine lv_istore_n (lv' := [(2, .int (((10 * x2) + (mga σ 4 (mgi σ 6).toNatClampNeg)) - 48)), (0, .ref o), (1, .int x1), (4, .int x4)]) hx hb dX2_readsTerm_46 rfl hl (by decide) rfl (fun ls hl => ?_)
          refine lv_aload_n hx hb dX2_readsTerm_47 rfl (lv_at hl 1 rfl) ?_
          refine lv_dup hx hb dX2_readsTerm_48 rfl ?_
          refine mg_6 hx hb hts hown hE hR dX2_readsTerm_49 ?_
          refine lv_iconst (v := 1) hx hb dX2_readsTerm_52 (by decide) ?_
          refine lv_iadd hx hb dX2_readsTerm_53 ?_
          refine mp_6 hx hb hts hown hE hap hR hS dX2_readsTerm_54 (fun σ54 e_σ54 H locs hR hS => ?_)
          have hw := hw σ54 e_σ54
          clear e_σ54
          refine lv_iinc (k := 3) (lv' := [(4, .int (x4 + 1)), (2, .int (((10 * x2) + (mga σ 4 (mgi σ 6).toNatClampNeg)) - 48)), (0, .ref o), (1, .int x1)]) hx hb dX2_readsTerm_57 hl rfl (congrArg (x4 + ·) (by decide : Int32.ofInt 1 = 1)) (by decide) rfl (fun ls hl => ?_)
          refine lv_goto (tgt := 16) hx hb dX2_readsTerm_60 (by decide) ?_
          exact ih16 σ54 (((10 * x2) + (mga σ 4 (mgi σ 6).toNatClampNeg)) - 48) (x4 + 1) hw H locs ls hR hS (lv_sub hl [2, 3, 1, 0] rfl)
  intro H ls hR hS hl
  have hl : lv_has ls 5 [(0, .ref o), (1, .int x1)] := hl
  generalize ([] : List Loc) = locs at hS ⊢
  unfold wM_readsTerm at hw
  refine lv_iconst (v := 1) hx hb dX2_readsTerm_0 (by decide) ?_
  refine lv_istore_n (lv' := [(2, .int 1), (0, .ref o), (1, .int x1)]) hx hb dX2_readsTerm_1 rfl hl (by decide) rfl (fun ls hl => ?_)
  refine lv_iconst (v := 0) hx hb dX2_readsTerm_2 (by decide) ?_
  refine lv_istore_n (lv' := [(3, .int 0), (2, .int 1), (0, .ref o), (1, .int x1)]) hx hb dX2_readsTerm_3 rfl hl (by decide) rfl (fun ls hl => ?_)
  refine lv_aload_n hx hb dX2_readsTerm_4 rfl (lv_at hl 2 rfl) ?_
  refine mc_vir (As := []) (rest := []) X (mM_isDigit l G o ρ hap σ  _ hw) (lw_V q2228 q2230 qs49 q_ini2 q2231) hd2_isDigit (mm_le hRf rfl) (mm_le hRl rfl) rfl rfl (Nat.le_of_ble_eq_true rfl) dX2_readsTerm_5 hR hS hl.1 (fun r5 H locs hw hR hS => ?_)
  refine lv_if_eq (tgt := 84) hx hb dX2_readsTerm_8 (by decide) (fun c_8 => ?_) (fun c_8 => ?_)
  · have hw := hw.1 c_8
    refine lv_aload_n hx hb dX2_readsTerm_84 rfl (lv_at hl 2 rfl) ?_
    refine mc_vi (As := []) (rest := []) X (mM_readsPower l G o ρ hap σ  _ hw) (lw_V q2234 q2236 qs50 q_ini2 q2237) hd2_readsPower (mm_le hRf rfl) (mm_le hRl rfl) rfl rfl (Nat.le_of_ble_eq_true rfl) dX2_readsTerm_85 hR hS hl.1 (fun r85 σ85 H locs hw hR hS => ?_)
    refine lv_istore_n (lv' := [(3, .int r85), (2, .int 1), (0, .ref o), (1, .int x1)]) hx hb dX2_readsTerm_88 rfl hl (by decide) rfl (fun ls hl => ?_)
    exact hJ89 σ85 x1 (1 : Int32) r85 hw H locs ls hR hS (lv_sub hl [2, 3, 1, 0] rfl)
  · have hw := hw.2 c_8
    refine lv_iconst (v := 0) hx hb dX2_readsTerm_11 (by decide) ?_
    refine lv_istore_n (lv' := [(2, .int 0), (3, .int 0), (0, .ref o), (1, .int x1)]) hx hb dX2_readsTerm_12 rfl hl (by decide) rfl (fun ls hl => ?_)
    refine lv_iconst (v := 0) hx hb dX2_readsTerm_13 (by decide) ?_
    refine lv_istore (lv' := [(4, .int 0), (2, .int 0), (3, .int 0), (0, .ref o), (1, .int x1)]) hx hb dX2_readsTerm_14 hl (by decide) rfl (fun ls hl => ?_)
    obtain ⟨n16, hw⟩ := hw
    exact hL16 x1 n16 σ (0 : Int32) (0 : Int32) hw H locs ls hR hS (lv_sub hl [3, 4, 1, 0] rfl)
def wM_readsAll_j103  (Q : Int32 → mS → Prop) (σ : mS) (x2 : Int32)  : Prop :=
  ∀ y104_0 : Int32, y104_0 = (if x2 = 0 then 0 else (if (mgi σ 6) = (mgi σ 5) then 1 else 0)) → (y104_0 = 0 ∨ y104_0 = 1) ∧ Q y104_0 σ
def wM_readsAll_j69 (rec47 : mS → Int32 → Prop) (Q : Int32 → mS → Prop) (σ : mS)   : Prop :=
  wM_here σ  (fun r70 => ∀ y75_0 : Int32, y75_0 = (if r70 = (45 : Int32) then (-1) else 1) → ∀ σ91 : mS, σ91 = mpi σ 6 ((mgi σ 6) + 1) → wM_readsTerm σ91 y75_0 (fun r96 σ96 => rec47 σ96 r96))
def wM_readsAll_l47  (Q : Int32 → mS → Prop)   : Nat → mS → Int32 → Prop
  | 0, _, _ => False
  | n + 1, σ, x2 => ((x2 = 0 → (wM_readsAll_j103  Q σ x2)) ∧ (¬ x2 = 0 → wM_here σ  (fun r52 => ((r52 = (43 : Int32) → (wM_readsAll_j69 (fun z z2 => wM_readsAll_l47  Q   n z z2) Q σ )) ∧ (¬ r52 = (43 : Int32) → wM_here σ  (fun r61 => ((r61 = (45 : Int32) → (wM_readsAll_j69 (fun z z2 => wM_readsAll_l47  Q   n z z2) Q σ )) ∧ (¬ r61 = (45 : Int32) → (wM_readsAll_j103  Q σ x2)))))))))
def wM_readsAll_l7  (Q : Int32 → mS → Prop)   : Nat → mS → Int32 → Prop
  | 0, _, _ => False
  | n + 1, σ, x1 => (((9 : Int32) ≤ x1 → wM_takes σ (45 : Int32) (fun r29 σ29 => ∀ y32_0 : Int32, y32_0 = (if r29 = 0 then 1 else (-1)) → wM_readsTerm σ29 y32_0 (fun r43 σ43 => (∃ k47 : Nat, wM_readsAll_l47  Q   k47 σ43 r43)))) ∧ (¬ (9 : Int32) ≤ x1 → vp_in x1 9 ∧ (∀ σ19 : mS, σ19 = mpl σ 7 x1.toNatClampNeg 0 → wM_readsAll_l7  Q   n σ19 (x1 + 1))))
def wM_readsAll (σ : mS)  (Q : Int32 → mS → Prop) : Prop :=
  ∀ σ2 : mS, σ2 = mpi σ 6 0 → (∃ k7 : Nat, wM_readsAll_l7  Q   k7 σ2 (0 : Int32))
set_option maxHeartbeats 4000000 in
theorem mM_readsAll (l : Launch) (G : mG) (o : Nat) (ρ : Nat → Nat) (hap : mAp o ρ) (σ : mS)  (Q : Int32 → mS → Prop) (hw : wM_readsAll σ  Q) : mMetI l G yX2_readsAll (ws_ yX2_readsAll cX2_readsAll 3 (some .boolean)) 4 86 o ρ [.ref o] σ Q := by
  refine mo_Z plain2 rfl (Nat.le_of_ble_eq_true rfl) ?_
  intro p e s R m args below meth c QQ X hRf hRl hret
  obtain ⟨hx, hb, hml, hown, hts, hE⟩ := id X
  have hJ103 : ∀ (σ : mS) (x2 : Int32), wM_readsAll_j103  Q σ x2 → ∀ (H : Heap) (locs : List Loc) (ls : Array Slot), mR G o ρ σ H → va_S (mA o ρ) s.heap H locs → lv_has ls 3 [(0, .ref o), (2, .int x2)] → W p l e R s m args below meth c H locs 0 0 QQ (F0 m 103 ls []) := by
    intro σ x2 hw H locs ls hR hS hl
    unfold wM_readsAll_j103 at hw
    refine lv_iload_n hx hb dX2_readsAll_103 rfl (lv_at hl 1 rfl) ?_
    have hK104 : ∀ (y104_0 : Int32), y104_0 = (if x2 = 0 then 0 else (if (mgi σ 6) = (mgi σ 5) then 1 else 0)) → ∀ (ls : Array Slot), lv_has ls 3 [] → W p l e R s m args below meth c H locs 0 0 QQ (F0 m 123 ls [.int y104_0]) := by
      intro y104_0 e_y104_0 ls hl
      have hw := hw y104_0 e_y104_0
      obtain ⟨hz, hw⟩ := hw
      exact hret _ _ _ _ _ _ hw hz hR hS dX2_readsAll_123
    refine lv_if_eq (tgt := 122) hx hb dX2_readsAll_104 (by decide) (fun c_104 => ?_) (fun c_104 => ?_)
    · refine lv_iconst (v := 0) hx hb dX2_readsAll_122 (by decide) ?_
      exact hK104 _ (if_pos c_104).symm ls (lv_sub hl [] rfl)
    · refine lv_aload_n hx hb dX2_readsAll_107 rfl (lv_at hl 0 rfl) ?_
      refine mg_6 hx hb hts hown hE hR dX2_readsAll_108 ?_
      refine lv_aload_n hx hb dX2_readsAll_111 rfl (lv_at hl 0 rfl) ?_
      refine mg_5 hx hb hts hown hE hR dX2_readsAll_112 ?_
      refine lv_icmp_ne (tgt := 122) hx hb dX2_readsAll_115 (by decide) (fun c_115 => ?_) (fun c_115 => ?_)
      · refine lv_iconst (v := 0) hx hb dX2_readsAll_122 (by decide) ?_
        exact hK104 _ ((if_neg c_115).symm.trans (if_neg c_104).symm) ls (lv_sub hl [] rfl)
      · refine lv_iconst (v := 1) hx hb dX2_readsAll_118 (by decide) ?_
        refine lv_goto (tgt := 123) hx hb dX2_readsAll_119 (by decide) ?_
        exact hK104 _ ((if_pos c_115).symm.trans (if_neg c_104).symm) ls (lv_sub hl [] rfl)
  have hL47 : ∀ (n47 : Nat) (σ : mS) (x2 : Int32), wM_readsAll_l47  Q   n47 σ x2 → ∀ (H : Heap) (locs : List Loc) (ls : Array Slot), mR G o ρ σ H → va_S (mA o ρ) s.heap H locs → lv_has ls 3 [(0, .ref o), (2, .int x2)] → W p l e R s m args below meth c H locs 0 0 QQ (F0 m 47 ls []) := by
    intro  n47
    induction n47 with
    | zero => intro σ x2 hw; exact hw.elim
    | succ n47 ih47 =>
      have hJ69 : ∀ (σ : mS), wM_readsAll_j69 (wM_readsAll_l47  Q   n47) Q σ  → ∀ (H : Heap) (locs : List Loc) (ls : Array Slot), mR G o ρ σ H → va_S (mA o ρ) s.heap H locs → lv_has ls 3 [(0, .ref o)] → W p l e R s m args below meth c H locs 0 0 QQ (F0 m 69 ls []) := by
        intro σ hw H locs ls hR hS hl
        unfold wM_readsAll_j69 at hw
        refine lv_aload_n hx hb dX2_readsAll_69 rfl (lv_at hl 0 rfl) ?_
        refine mc_vir (As := []) (rest := []) X (mM_here l G o ρ hap σ  _ hw) (lw_V q2220 q2222 qs47 q_ini2 q2223) hd2_here (mm_le hRf rfl) (mm_le hRl rfl) rfl rfl (Nat.le_of_ble_eq_true rfl) dX2_readsAll_70 hR hS hl.1 (fun r70 H locs hw hR hS => ?_)
        refine lv_bipush (v := 45) hx hb dX2_readsAll_73 (by decide) ?_
        have hK75 : ∀ (y75_0 : Int32), y75_0 = (if r70 = (45 : Int32) then (-1) else 1) → ∀ (ls : Array Slot), lv_has ls 3 [(0, .ref o)] → W p l e R s m args below meth c H locs 0 0 QQ (F0 m 83 ls [.int y75_0]) := by
          intro y75_0 e_y75_0 ls hl
          have hw := hw y75_0 e_y75_0
          refine lv_istore_n (lv' := [(1, .int y75_0), (0, .ref o)]) hx hb dX2_readsAll_83 rfl hl (by decide) rfl (fun ls hl => ?_)
          refine lv_aload_n hx hb dX2_readsAll_84 rfl (lv_at hl 1 rfl) ?_
          refine lv_dup hx hb dX2_readsAll_85 rfl ?_
          refine mg_6 hx hb hts hown hE hR dX2_readsAll_86 ?_
          refine lv_iconst (v := 1) hx hb dX2_readsAll_89 (by decide) ?_
          refine lv_iadd hx hb dX2_readsAll_90 ?_
          refine mp_6 hx hb hts hown hE hap hR hS dX2_readsAll_91 (fun σ91 e_σ91 H locs hR hS => ?_)
          have hw := hw σ91 e_σ91
          clear e_σ91
          refine lv_aload_n hx hb dX2_readsAll_94 rfl (lv_at hl 1 rfl) ?_
          refine lv_iload_n hx hb dX2_readsAll_95 rfl (lv_at hl 0 rfl) ?_
          refine mc_vi (As := [.int y75_0]) (rest := []) X (mM_readsTerm l G o ρ hap σ91 y75_0 _ hw) (lw_V q2224 q2226 qs48 q_ini2 q2227) hd2_readsTerm (mm_le hRf rfl) (mm_le hRl rfl) rfl rfl (Nat.le_of_ble_eq_true rfl) dX2_readsAll_96 hR hS hl.1 (fun r96 σ96 H locs hw hR hS => ?_)
          refine lv_istore_n (lv' := [(2, .int r96), (1, .int y75_0), (0, .ref o)]) hx hb dX2_readsAll_99 rfl hl (by decide) rfl (fun ls hl => ?_)
          refine lv_goto (tgt := 47) hx hb dX2_readsAll_100 (by decide) ?_
          exact ih47 σ96 r96 hw H locs ls hR hS (lv_sub hl [2, 0] rfl)
        refine lv_icmp_ne (tgt := 82) hx hb dX2_readsAll_75 (by decide) (fun c_75 => ?_) (fun c_75 => ?_)
        · refine lv_iconst (v := 1) hx hb dX2_readsAll_82 (by decide) ?_
          exact hK75 _ (if_neg c_75).symm ls (lv_sub hl [0] rfl)
        · refine lv_iconst (v := (-1)) hx hb dX2_readsAll_78 (by decide) ?_
          refine lv_goto (tgt := 83) hx hb dX2_readsAll_79 (by decide) ?_
          exact hK75 _ (if_pos c_75).symm ls (lv_sub hl [0] rfl)
      intro σ x2 hw H locs ls hR hS hl
      rw [wM_readsAll_l47] at hw
      refine lv_iload_n hx hb dX2_readsAll_47 rfl (lv_at hl 1 rfl) ?_
      refine lv_if_eq (tgt := 103) hx hb dX2_readsAll_48 (by decide) (fun c_48 => ?_) (fun c_48 => ?_)
      · have hw := hw.1 c_48
        exact hJ103 σ x2 hw H locs ls hR hS (lv_sub hl [0, 1] rfl)
      · have hw := hw.2 c_48
        refine lv_aload_n hx hb dX2_readsAll_51 rfl (lv_at hl 0 rfl) ?_
        refine mc_vir (As := []) (rest := []) X (mM_here l G o ρ hap σ  _ hw) (lw_V q2220 q2222 qs47 q_ini2 q2223) hd2_here (mm_le hRf rfl) (mm_le hRl rfl) rfl rfl (Nat.le_of_ble_eq_true rfl) dX2_readsAll_52 hR hS hl.1 (fun r52 H locs hw hR hS => ?_)
        refine lv_bipush (v := 43) hx hb dX2_readsAll_55 (by decide) ?_
        refine lv_icmp_eq (tgt := 69) hx hb dX2_readsAll_57 (by decide) (fun c_57 => ?_) (fun c_57 => ?_)
        · have hw := hw.1 c_57
          exact hJ69 σ hw H locs ls hR hS (lv_sub hl [0] rfl)
        · have hw := hw.2 c_57
          refine lv_aload_n hx hb dX2_readsAll_60 rfl (lv_at hl 0 rfl) ?_
          refine mc_vir (As := []) (rest := []) X (mM_here l G o ρ hap σ  _ hw) (lw_V q2220 q2222 qs47 q_ini2 q2223) hd2_here (mm_le hRf rfl) (mm_le hRl rfl) rfl rfl (Nat.le_of_ble_eq_true rfl) dX2_readsAll_61 hR hS hl.1 (fun r61 H locs hw hR hS => ?_)
          refine lv_bipush (v := 45) hx hb dX2_readsAll_64 (by decide) ?_
          refine lv_icmp_ne (tgt := 103) hx hb dX2_readsAll_66 (by decide) (fun c_66 => ?_) (fun c_66 => ?_)
          · have hw := hw.2 c_66
            exact hJ103 σ x2 hw H locs ls hR hS (lv_sub hl [0, 1] rfl)
          · have hw := hw.1 c_66
            exact hJ69 σ hw H locs ls hR hS (lv_sub hl [0] rfl)
  have hL7 : ∀ (n7 : Nat) (σ : mS) (x1 : Int32), wM_readsAll_l7  Q   n7 σ x1 → ∀ (H : Heap) (locs : List Loc) (ls : Array Slot), mR G o ρ σ H → va_S (mA o ρ) s.heap H locs → lv_has ls 3 [(0, .ref o), (1, .int x1)] → W p l e R s m args below meth c H locs 0 0 QQ (F0 m 7 ls []) := by
    intro  n7
    induction n7 with
    | zero => intro σ x1 hw; exact hw.elim
    | succ n7 ih7 =>
      intro σ x1 hw H locs ls hR hS hl
      rw [wM_readsAll_l7] at hw
      refine lv_iload_n hx hb dX2_readsAll_7 rfl (lv_at hl 1 rfl) ?_
      refine lv_bipush (v := 9) hx hb dX2_readsAll_8 (by decide) ?_
      refine lv_icmp_ge (tgt := 26) hx hb dX2_readsAll_10 (by decide) (fun c_10 => ?_) (fun c_10 => ?_)
      · have hw := hw.1 c_10
        refine lv_aload_n hx hb dX2_readsAll_26 rfl (lv_at hl 0 rfl) ?_
        refine lv_bipush (v := 45) hx hb dX2_readsAll_27 (by decide) ?_
        refine mc_vi (As := [.int (45 : Int32)]) (rest := []) X (mM_takes l G o ρ hap σ (45 : Int32) _ hw) (lw_V q2216 q2218 qs46 q_ini2 q2219) hd2_takes (mm_le hRf rfl) (mm_le hRl rfl) rfl rfl (Nat.le_of_ble_eq_true rfl) dX2_readsAll_29 hR hS hl.1 (fun r29 σ29 H locs hw hR hS => ?_)
        have hK32 : ∀ (y32_0 : Int32), y32_0 = (if r29 = 0 then 1 else (-1)) → ∀ (ls : Array Slot), lv_has ls 3 [(0, .ref o)] → W p l e R s m args below meth c H locs 0 0 QQ (F0 m 40 ls [.int y32_0]) := by
          intro y32_0 e_y32_0 ls hl
          have hw := hw y32_0 e_y32_0
          refine lv_istore_n (lv' := [(1, .int y32_0), (0, .ref o)]) hx hb dX2_readsAll_40 rfl hl (by decide) rfl (fun ls hl => ?_)
          refine lv_aload_n hx hb dX2_readsAll_41 rfl (lv_at hl 1 rfl) ?_
          refine lv_iload_n hx hb dX2_readsAll_42 rfl (lv_at hl 0 rfl) ?_
          refine mc_vi (As := [.int y32_0]) (rest := []) X (mM_readsTerm l G o ρ hap σ29 y32_0 _ hw) (lw_V q2224 q2226 qs48 q_ini2 q2227) hd2_readsTerm (mm_le hRf rfl) (mm_le hRl rfl) rfl rfl (Nat.le_of_ble_eq_true rfl) dX2_readsAll_43 hR hS hl.1 (fun r43 σ43 H locs hw hR hS => ?_)
          refine lv_istore_n (lv' := [(2, .int r43), (1, .int y32_0), (0, .ref o)]) hx hb dX2_readsAll_46 rfl hl (by decide) rfl (fun ls hl => ?_)
          obtain ⟨n47, hw⟩ := hw
          exact hL47  n47 σ43 r43 hw H locs ls hR hS (lv_sub hl [2, 0] rfl)
        refine lv_if_eq (tgt := 39) hx hb dX2_readsAll_32 (by decide) (fun c_32 => ?_) (fun c_32 => ?_)
        · refine lv_iconst (v := 1) hx hb dX2_readsAll_39 (by decide) ?_
          exact hK32 _ (if_pos c_32).symm ls (lv_sub hl [0] rfl)
        · refine lv_iconst (v := (-1)) hx hb dX2_readsAll_35 (by decide) ?_
          refine lv_goto (tgt := 40) hx hb dX2_readsAll_36 (by decide) ?_
          exact hK32 _ (if_neg c_32).symm ls (lv_sub hl [0] rfl)
      · have hw := hw.2 c_10
        refine lv_aload_n hx hb dX2_readsAll_13 rfl (lv_at hl 0 rfl) ?_
        refine mg_7 hx hb hts hown hE hR dX2_readsAll_14 ?_
        refine lv_iload_n hx hb dX2_readsAll_17 rfl (lv_at hl 1 rfl) ?_
        refine lv_lconst (v := 0) hx hb dX2_readsAll_18 (by decide) ?_
        obtain ⟨hi_19, hw⟩ := hw
        refine mst_7 hx hb hE hap hR hS hi_19 dX2_readsAll_19 (fun σ19 e_σ19 H locs hR hS => ?_)
        have hw := hw σ19 e_σ19
        clear e_σ19
        refine lv_iinc (k := 1) (lv' := [(1, .int (x1 + 1)), (0, .ref o)]) hx hb dX2_readsAll_20 hl rfl (congrArg (x1 + ·) (by decide : Int32.ofInt 1 = 1)) (by decide) rfl (fun ls hl => ?_)
        refine lv_goto (tgt := 7) hx hb dX2_readsAll_23 (by decide) ?_
        exact ih7 σ19 (x1 + 1) hw H locs ls hR hS (lv_sub hl [1, 0] rfl)
  intro H ls hR hS hl
  have hl : lv_has ls 3 [(0, .ref o)] := hl
  generalize ([] : List Loc) = locs at hS ⊢
  unfold wM_readsAll at hw
  refine lv_aload_n hx hb dX2_readsAll_0 rfl (lv_at hl 0 rfl) ?_
  refine lv_iconst (v := 0) hx hb dX2_readsAll_1 (by decide) ?_
  refine mp_6 hx hb hts hown hE hap hR hS dX2_readsAll_2 (fun σ2 e_σ2 H locs hR hS => ?_)
  have hw := hw σ2 e_σ2
  clear e_σ2
  refine lv_iconst (v := 0) hx hb dX2_readsAll_5 (by decide) ?_
  refine lv_istore_n (lv' := [(1, .int 0), (0, .ref o)]) hx hb dX2_readsAll_6 rfl hl (by decide) rfl (fun ls hl => ?_)
  obtain ⟨n7, hw⟩ := hw
  exact hL7  n7 σ2 (0 : Int32) hw H locs ls hR hS (lv_sub hl [1, 0] rfl)
def wM_takesRead_l46  (Q : Int32 → mS → Prop)  (x1 : Int32) (x2 : Int32) : Nat → mS → Int32 → Prop
  | 0, _, _ => False
  | n + 1, σ, x3 => (((9 : Int32) ≤ x3 → (x2 = 0 ∨ x2 = 1) ∧ Q x2 σ) ∧ (¬ (9 : Int32) ≤ x3 → ((x2 = 0 → (x2 = 0 ∨ x2 = 1) ∧ Q x2 σ) ∧ (¬ x2 = 0 → vp_in x3 9 ∧ (vp_in ((9 * x1) + x3) 45 ∧ (∀ σ73 : mS, σ73 = mpa σ 3 ((9 * x1) + x3).toNatClampNeg (mgl σ 7 x3.toNatClampNeg).toInt32 → wM_takesRead_l46  Q  x1 x2 n σ73 (x3 + 1)))))))
def wM_takesRead_j36 (rec4 : Int32 → Int32 → Prop) (Q : Int32 → mS → Prop) (σ : mS) (x1 : Int32) (x3 : Int32)  : Prop :=
  rec4 (0 : Int32) (x3 + 1)
def wM_takesRead_l4  (Q : Int32 → mS → Prop) (σ : mS) (x1 : Int32) : Nat → Int32 → Int32 → Prop
  | 0, _, _ => False
  | n + 1, x2, x3 => (((9 : Int32) ≤ x3 → (∃ k46 : Nat, wM_takesRead_l46  Q  x1 x2 k46 σ (0 : Int32))) ∧ (¬ (9 : Int32) ≤ x3 → ((x2 = 0 → (wM_takesRead_j36 (fun z2 z3 => wM_takesRead_l4  Q σ x1 n z2 z3) Q σ x1 x3)) ∧ (¬ x2 = 0 → vp_in x3 9 ∧ (wM_in (mgl σ 7 x3.toNatClampNeg) ((-9999) : Int64) (9999 : Int64) (fun r26 => ((r26 = 0 → (wM_takesRead_j36 (fun z2 z3 => wM_takesRead_l4  Q σ x1 n z2 z3) Q σ x1 x3)) ∧ (¬ r26 = 0 → wM_takesRead_l4  Q σ x1 n (1 : Int32) (x3 + 1)))))))))
def wM_takesRead (σ : mS) (x1 : Int32) (Q : Int32 → mS → Prop) : Prop :=
  (∃ k4 : Nat, wM_takesRead_l4  Q σ x1 k4 (1 : Int32) (0 : Int32))
set_option maxHeartbeats 4000000 in
theorem mM_takesRead (l : Launch) (G : mG) (o : Nat) (ρ : Nat → Nat) (hap : mAp o ρ) (σ : mS) (x1 : Int32) (Q : Int32 → mS → Prop) (hw : wM_takesRead σ x1 Q) : mMetI l G yX2_takesRead (ws_ yX2_takesRead cX2_takesRead 4 (some .boolean)) 1 25 o ρ [.ref o, .int x1] σ Q := by
  refine mo_Z plain2 rfl (Nat.le_of_ble_eq_true rfl) ?_
  intro p e s R m args below meth c QQ X hRf hRl hret
  obtain ⟨hx, hb, hml, hown, hts, hE⟩ := id X
  have hL46 : ∀ (x1 : Int32) (x2 : Int32) (n46 : Nat) (σ : mS) (x3 : Int32), wM_takesRead_l46  Q  x1 x2 n46 σ x3 → ∀ (H : Heap) (locs : List Loc) (ls : Array Slot), mR G o ρ σ H → va_S (mA o ρ) s.heap H locs → lv_has ls 4 [(0, .ref o), (1, .int x1), (2, .int x2), (3, .int x3)] → W p l e R s m args below meth c H locs 0 0 QQ (F0 m 46 ls []) := by
    intro x1 x2 n46
    induction n46 with
    | zero => intro σ x3 hw; exact hw.elim
    | succ n46 ih46 =>
      intro σ x3 hw H locs ls hR hS hl
      rw [wM_takesRead_l46] at hw
      refine lv_iload_n hx hb dX2_takesRead_46 rfl (lv_at hl 3 rfl) ?_
      refine lv_bipush (v := 9) hx hb dX2_takesRead_47 (by decide) ?_
      refine lv_icmp_ge (tgt := 80) hx hb dX2_takesRead_49 (by decide) (fun c_49 => ?_) (fun c_49 => ?_)
      · have hw := hw.1 c_49
        refine lv_iload_n hx hb dX2_takesRead_80 rfl (lv_at hl 2 rfl) ?_
        obtain ⟨hz, hw⟩ := hw
        exact hret _ _ _ _ _ _ hw hz hR hS dX2_takesRead_81
      · have hw := hw.2 c_49
        refine lv_iload_n hx hb dX2_takesRead_52 rfl (lv_at hl 2 rfl) ?_
        refine lv_if_eq (tgt := 80) hx hb dX2_takesRead_53 (by decide) (fun c_53 => ?_) (fun c_53 => ?_)
        · have hw := hw.1 c_53
          refine lv_iload_n hx hb dX2_takesRead_80 rfl (lv_at hl 2 rfl) ?_
          obtain ⟨hz, hw⟩ := hw
          exact hret _ _ _ _ _ _ hw hz hR hS dX2_takesRead_81
        · have hw := hw.2 c_53
          refine lv_aload_n hx hb dX2_takesRead_56 rfl (lv_at hl 0 rfl) ?_
          refine mg_3 hx hb hts hown hE hR dX2_takesRead_57 ?_
          refine lv_bipush (v := 9) hx hb dX2_takesRead_60 (by decide) ?_
          refine lv_iload_n hx hb dX2_takesRead_62 rfl (lv_at hl 1 rfl) ?_
          refine lv_imul hx hb dX2_takesRead_63 ?_
          refine lv_iload_n hx hb dX2_takesRead_64 rfl (lv_at hl 3 rfl) ?_
          refine lv_iadd hx hb dX2_takesRead_65 ?_
          refine lv_aload_n hx hb dX2_takesRead_66 rfl (lv_at hl 0 rfl) ?_
          refine mg_7 hx hb hts hown hE hR dX2_takesRead_67 ?_
          refine lv_iload_n hx hb dX2_takesRead_70 rfl (lv_at hl 3 rfl) ?_
          obtain ⟨hi_71, hw⟩ := hw
          refine ma_7 hx hb hE hR hi_71 dX2_takesRead_71 ?_
          refine lv_l2i hx hb dX2_takesRead_72 rfl ?_
          obtain ⟨hi_73, hw⟩ := hw
          refine mst_3 hx hb hE hap hR hS hi_73 dX2_takesRead_73 (fun σ73 e_σ73 H locs hR hS => ?_)
          have hw := hw σ73 e_σ73
          clear e_σ73
          refine lv_iinc (k := 3) (lv' := [(3, .int (x3 + 1)), (0, .ref o), (1, .int x1), (2, .int x2)]) hx hb dX2_takesRead_74 hl rfl (congrArg (x3 + ·) (by decide : Int32.ofInt 1 = 1)) (by decide) rfl (fun ls hl => ?_)
          refine lv_goto (tgt := 46) hx hb dX2_takesRead_77 (by decide) ?_
          exact ih46 σ73 (x3 + 1) hw H locs ls hR hS (lv_sub hl [1, 2, 3, 0] rfl)
  have hL4 : ∀ (σ : mS) (x1 : Int32) (n4 : Nat) (x2 : Int32) (x3 : Int32), wM_takesRead_l4  Q σ x1 n4 x2 x3 → ∀ (H : Heap) (locs : List Loc) (ls : Array Slot), mR G o ρ σ H → va_S (mA o ρ) s.heap H locs → lv_has ls 4 [(0, .ref o), (1, .int x1), (2, .int x2), (3, .int x3)] → W p l e R s m args below meth c H locs 0 0 QQ (F0 m 4 ls []) := by
    intro σ x1 n4
    induction n4 with
    | zero => intro x2 x3 hw; exact hw.elim
    | succ n4 ih4 =>
      have hJ36 : ∀ (x3 : Int32), wM_takesRead_j36 (wM_takesRead_l4  Q σ x1 n4) Q σ x1 x3 → ∀ (H : Heap) (locs : List Loc) (ls : Array Slot), mR G o ρ σ H → va_S (mA o ρ) s.heap H locs → lv_has ls 4 [(0, .ref o), (1, .int x1), (3, .int x3)] → W p l e R s m args below meth c H locs 0 0 QQ (F0 m 36 ls []) := by
        intro x3 hw H locs ls hR hS hl
        unfold wM_takesRead_j36 at hw
        refine lv_iconst (v := 0) hx hb dX2_takesRead_36 (by decide) ?_
        refine lv_istore_n (lv' := [(2, .int 0), (0, .ref o), (1, .int x1), (3, .int x3)]) hx hb dX2_takesRead_37 rfl hl (by decide) rfl (fun ls hl => ?_)
        refine lv_iinc (k := 3) (lv' := [(3, .int (x3 + 1)), (2, .int 0), (0, .ref o), (1, .int x1)]) hx hb dX2_takesRead_38 hl rfl (congrArg (x3 + ·) (by decide : Int32.ofInt 1 = 1)) (by decide) rfl (fun ls hl => ?_)
        refine lv_goto (tgt := 4) hx hb dX2_takesRead_41 (by decide) ?_
        exact ih4 (0 : Int32) (x3 + 1) hw H locs ls hR hS (lv_sub hl [2, 3, 1, 0] rfl)
      intro x2 x3 hw H locs ls hR hS hl
      rw [wM_takesRead_l4] at hw
      refine lv_iload_n hx hb dX2_takesRead_4 rfl (lv_at hl 3 rfl) ?_
      refine lv_bipush (v := 9) hx hb dX2_takesRead_5 (by decide) ?_
      refine lv_icmp_ge (tgt := 44) hx hb dX2_takesRead_7 (by decide) (fun c_7 => ?_) (fun c_7 => ?_)
      · have hw := hw.1 c_7
        refine lv_iconst (v := 0) hx hb dX2_takesRead_44 (by decide) ?_
        refine lv_istore_n (lv' := [(3, .int 0), (0, .ref o), (1, .int x1), (2, .int x2)]) hx hb dX2_takesRead_45 rfl hl (by decide) rfl (fun ls hl => ?_)
        obtain ⟨n46, hw⟩ := hw
        exact hL46 x1 x2 n46 σ (0 : Int32) hw H locs ls hR hS (lv_sub hl [1, 2, 3, 0] rfl)
      · have hw := hw.2 c_7
        refine lv_iload_n hx hb dX2_takesRead_10 rfl (lv_at hl 2 rfl) ?_
        refine lv_if_eq (tgt := 36) hx hb dX2_takesRead_11 (by decide) (fun c_11 => ?_) (fun c_11 => ?_)
        · have hw := hw.1 c_11
          exact hJ36 x3 hw H locs ls hR hS (lv_sub hl [0, 1, 3] rfl)
        · have hw := hw.2 c_11
          refine lv_aload_n hx hb dX2_takesRead_14 rfl (lv_at hl 0 rfl) ?_
          refine mg_7 hx hb hts hown hE hR dX2_takesRead_15 ?_
          refine lv_iload_n hx hb dX2_takesRead_18 rfl (lv_at hl 3 rfl) ?_
          obtain ⟨hi_19, hw⟩ := hw
          refine ma_7 hx hb hE hR hi_19 dX2_takesRead_19 ?_
          refine lv_ldc2 (v := (-9999)) hx hb hown (hts _ q2243) dX2_takesRead_20 ?_
          refine lv_ldc2 (v := 9999) hx hb hown (hts _ q2244) dX2_takesRead_23 ?_
          refine mc_si (As := [.long (mgl σ 7 x3.toNatClampNeg), .long ((-9999) : Int64), .long (9999 : Int64)]) (rest := []) X (mM_in l (mgl σ 7 x3.toNatClampNeg) ((-9999) : Int64) (9999 : Int64) _ hw) (lw_S q2198 q2199 q_ini2 q2200) hd2_in (mm_le hRf rfl) (mm_le hRl rfl) rfl rfl (Nat.le_of_ble_eq_true rfl) dX2_takesRead_26 hR hS hl.1 (fun r26 H locs hw hR hS => ?_)
          refine lv_if_eq (tgt := 36) hx hb dX2_takesRead_29 (by decide) (fun c_29 => ?_) (fun c_29 => ?_)
          · have hw := hw.1 c_29
            exact hJ36 x3 hw H locs ls hR hS (lv_sub hl [0, 1, 3] rfl)
          · have hw := hw.2 c_29
            refine lv_iconst (v := 1) hx hb dX2_takesRead_32 (by decide) ?_
            refine lv_goto (tgt := 37) hx hb dX2_takesRead_33 (by decide) ?_
            refine lv_istore_n (lv' := [(2, .int 1), (0, .ref o), (1, .int x1), (3, .int x3)]) hx hb dX2_takesRead_37 rfl hl (by decide) rfl (fun ls hl => ?_)
            refine lv_iinc (k := 3) (lv' := [(3, .int (x3 + 1)), (2, .int 1), (0, .ref o), (1, .int x1)]) hx hb dX2_takesRead_38 hl rfl (congrArg (x3 + ·) (by decide : Int32.ofInt 1 = 1)) (by decide) rfl (fun ls hl => ?_)
            refine lv_goto (tgt := 4) hx hb dX2_takesRead_41 (by decide) ?_
            exact ih4 (1 : Int32) (x3 + 1) hw H locs ls hR hS (lv_sub hl [2, 3, 1, 0] rfl)
  intro H ls hR hS hl
  have hl : lv_has ls 4 [(0, .ref o), (1, .int x1)] := hl
  generalize ([] : List Loc) = locs at hS ⊢
  unfold wM_takesRead at hw
  refine lv_iconst (v := 1) hx hb dX2_takesRead_0 (by decide) ?_
  refine lv_istore_n (lv' := [(2, .int 1), (0, .ref o), (1, .int x1)]) hx hb dX2_takesRead_1 rfl hl (by decide) rfl (fun ls hl => ?_)
  refine lv_iconst (v := 0) hx hb dX2_takesRead_2 (by decide) ?_
  refine lv_istore_n (lv' := [(3, .int 0), (2, .int 1), (0, .ref o), (1, .int x1)]) hx hb dX2_takesRead_3 rfl hl (by decide) rfl (fun ls hl => ?_)
  obtain ⟨n4, hw⟩ := hw
  exact hL4 σ x1 n4 (1 : Int32) (0 : Int32) hw H locs ls hR hS (lv_sub hl [2, 3, 1, 0] rfl)
def wM_coefficient (σ : mS) (x1 : Int32) (x2 : Int32) (Q : Int32 → Prop) : Prop :=
  vp_in ((9 * x1) + x2) 45 ∧ (Q (mga σ 3 ((9 * x1) + x2).toNatClampNeg))
set_option maxHeartbeats 4000000 in
theorem mM_coefficient (l : Launch) (G : mG) (o : Nat) (ρ : Nat → Nat) (hap : mAp o ρ) (σ : mS) (x1 : Int32) (x2 : Int32) (Q : Int32 → Prop) (hw : wM_coefficient σ x1 x2 Q) : mMetI l G yX2_coefficient (ws_ yX2_coefficient cX2_coefficient 3 (some .int)) 0 0 o ρ [.ref o, .int x1, .int x2] σ (fun r τ => σ = τ ∧ Q r) := by
  refine mo_I plain2 rfl (Nat.le_of_ble_eq_true rfl) ?_
  intro p e s R m args below meth c QQ X hRf hRl hret
  obtain ⟨hx, hb, hml, hown, hts, hE⟩ := id X
  intro H ls hR hS hl
  have hl : lv_has ls 3 [(0, .ref o), (1, .int x1), (2, .int x2)] := hl
  generalize ([] : List Loc) = locs at hS ⊢
  unfold wM_coefficient at hw
  refine lv_aload_n hx hb dX2_coefficient_0 rfl (lv_at hl 0 rfl) ?_
  refine mg_3 hx hb hts hown hE hR dX2_coefficient_1 ?_
  refine lv_bipush (v := 9) hx hb dX2_coefficient_4 (by decide) ?_
  refine lv_iload_n hx hb dX2_coefficient_6 rfl (lv_at hl 1 rfl) ?_
  refine lv_imul hx hb dX2_coefficient_7 ?_
  refine lv_iload_n hx hb dX2_coefficient_8 rfl (lv_at hl 2 rfl) ?_
  refine lv_iadd hx hb dX2_coefficient_9 ?_
  obtain ⟨hi_10, hw⟩ := hw
  refine ma_3 hx hb hE hR hi_10 dX2_coefficient_10 ?_
  exact hret _ _ _ _ _ _ ⟨rfl, hw⟩ hR hS dX2_coefficient_11
def wM_degreeOf_l4  (Q : Int32 → Prop) (σ : mS) (x1 : Int32) : Nat → Int32 → Int32 → Prop
  | 0, _, _ => False
  | n + 1, x2, x3 => (((9 : Int32) ≤ x3 → Q x2) ∧ (¬ (9 : Int32) ≤ x3 → wM_coefficient σ x1 x3 (fun r13 => ∀ y16_0 : Int32, y16_0 = (if r13 = 0 then x2 else x3) → wM_degreeOf_l4  Q σ x1 n y16_0 (x3 + 1))))
def wM_degreeOf (σ : mS) (x1 : Int32) (Q : Int32 → Prop) : Prop :=
  (∃ k4 : Nat, wM_degreeOf_l4  Q σ x1 k4 ((-1) : Int32) (0 : Int32))
set_option maxHeartbeats 4000000 in
theorem mM_degreeOf (l : Launch) (G : mG) (o : Nat) (ρ : Nat → Nat) (hap : mAp o ρ) (σ : mS) (x1 : Int32) (Q : Int32 → Prop) (hw : wM_degreeOf σ x1 Q) : mMetI l G yX2_degreeOf (ws_ yX2_degreeOf cX2_degreeOf 4 (some .int)) 1 22 o ρ [.ref o, .int x1] σ (fun r τ => σ = τ ∧ Q r) := by
  refine mo_I plain2 rfl (Nat.le_of_ble_eq_true rfl) ?_
  intro p e s R m args below meth c QQ X hRf hRl hret
  obtain ⟨hx, hb, hml, hown, hts, hE⟩ := id X
  have hL4 : ∀ (x1 : Int32) (n4 : Nat) (x2 : Int32) (x3 : Int32), wM_degreeOf_l4  Q σ x1 n4 x2 x3 → ∀ (H : Heap) (locs : List Loc) (ls : Array Slot), mR G o ρ σ H → va_S (mA o ρ) s.heap H locs → lv_has ls 4 [(0, .ref o), (1, .int x1), (2, .int x2), (3, .int x3)] → W p l e R s m args below meth c H locs 0 0 QQ (F0 m 4 ls []) := by
    intro x1 n4
    induction n4 with
    | zero => intro x2 x3 hw; exact hw.elim
    | succ n4 ih4 =>
      intro x2 x3 hw H locs ls hR hS hl
      rw [wM_degreeOf_l4] at hw
      refine lv_iload_n hx hb dX2_degreeOf_4 rfl (lv_at hl 3 rfl) ?_
      refine lv_bipush (v := 9) hx hb dX2_degreeOf_5 (by decide) ?_
      refine lv_icmp_ge (tgt := 31) hx hb dX2_degreeOf_7 (by decide) (fun c_7 => ?_) (fun c_7 => ?_)
      · have hw := hw.1 c_7
        refine lv_iload_n hx hb dX2_degreeOf_31 rfl (lv_at hl 2 rfl) ?_
        exact hret _ _ _ _ _ _ ⟨rfl, hw⟩ hR hS dX2_degreeOf_32
      · have hw := hw.2 c_7
        refine lv_aload_n hx hb dX2_degreeOf_10 rfl (lv_at hl 0 rfl) ?_
        refine lv_iload_n hx hb dX2_degreeOf_11 rfl (lv_at hl 1 rfl) ?_
        refine lv_iload_n hx hb dX2_degreeOf_12 rfl (lv_at hl 3 rfl) ?_
        refine mc_vir (As := [.int x1, .int x3]) (rest := []) X (mM_coefficient l G o ρ hap σ x1 x3 _ hw) (lw_V q2253 q2255 qs54 q_ini2 q2256) hd2_coefficient (mm_le hRf rfl) (mm_le hRl rfl) rfl rfl (Nat.le_of_ble_eq_true rfl) dX2_degreeOf_13 hR hS hl.1 (fun r13 H locs hw hR hS => ?_)
        have hK16 : ∀ (y16_0 : Int32), y16_0 = (if r13 = 0 then x2 else x3) → ∀ (ls : Array Slot), lv_has ls 4 [(0, .ref o), (1, .int x1), (3, .int x3)] → W p l e R s m args below meth c H locs 0 0 QQ (F0 m 24 ls [.int y16_0]) := by
          intro y16_0 e_y16_0 ls hl
          have hw := hw y16_0 e_y16_0
          refine lv_istore_n (lv' := [(2, .int y16_0), (0, .ref o), (1, .int x1), (3, .int x3)]) hx hb dX2_degreeOf_24 rfl hl (by decide) rfl (fun ls hl => ?_)
          refine lv_iinc (k := 3) (lv' := [(3, .int (x3 + 1)), (2, .int y16_0), (0, .ref o), (1, .int x1)]) hx hb dX2_degreeOf_25 hl rfl (congrArg (x3 + ·) (by decide : Int32.ofInt 1 = 1)) (by decide) rfl (fun ls hl => ?_)
          refine lv_goto (tgt := 4) hx hb dX2_degreeOf_28 (by decide) ?_
          exact ih4 y16_0 (x3 + 1) hw H locs ls hR hS (lv_sub hl [2, 3, 1, 0] rfl)
        refine lv_if_eq (tgt := 23) hx hb dX2_degreeOf_16 (by decide) (fun c_16 => ?_) (fun c_16 => ?_)
        · refine lv_iload_n hx hb dX2_degreeOf_23 rfl (lv_at hl 2 rfl) ?_
          exact hK16 _ (if_pos c_16).symm ls (lv_sub hl [0, 1, 3] rfl)
        · refine lv_iload_n hx hb dX2_degreeOf_19 rfl (lv_at hl 3 rfl) ?_
          refine lv_goto (tgt := 24) hx hb dX2_degreeOf_20 (by decide) ?_
          exact hK16 _ (if_neg c_16).symm ls (lv_sub hl [0, 1, 3] rfl)
  intro H ls hR hS hl
  have hl : lv_has ls 4 [(0, .ref o), (1, .int x1)] := hl
  generalize ([] : List Loc) = locs at hS ⊢
  unfold wM_degreeOf at hw
  refine lv_iconst (v := (-1)) hx hb dX2_degreeOf_0 (by decide) ?_
  refine lv_istore_n (lv' := [(2, .int (-1)), (0, .ref o), (1, .int x1)]) hx hb dX2_degreeOf_1 rfl hl (by decide) rfl (fun ls hl => ?_)
  refine lv_iconst (v := 0) hx hb dX2_degreeOf_2 (by decide) ?_
  refine lv_istore_n (lv' := [(3, .int 0), (2, .int (-1)), (0, .ref o), (1, .int x1)]) hx hb dX2_degreeOf_3 rfl hl (by decide) rfl (fun ls hl => ?_)
  obtain ⟨n4, hw⟩ := hw
  exact hL4 x1 n4 ((-1) : Int32) (0 : Int32) hw H locs ls hR hS (lv_sub hl [2, 3, 1, 0] rfl)
def wM_toldDegree (σ : mS) (x1 : Int32) (Q : Int32 → Prop) : Prop :=
  wM_degreeOf σ x1 (fun r2 => ∀ y7_0 : Int32, y7_0 = (if 0 ≤ r2 then r2 else (-10)) → Q y7_0)
set_option maxHeartbeats 4000000 in
theorem mM_toldDegree (l : Launch) (G : mG) (o : Nat) (ρ : Nat → Nat) (hap : mAp o ρ) (σ : mS) (x1 : Int32) (Q : Int32 → Prop) (hw : wM_toldDegree σ x1 Q) : mMetI l G yX2_toldDegree (ws_ yX2_toldDegree cX2_toldDegree 3 (some .int)) 2 45 o ρ [.ref o, .int x1] σ (fun r τ => σ = τ ∧ Q r) := by
  refine mo_I plain2 rfl (Nat.le_of_ble_eq_true rfl) ?_
  intro p e s R m args below meth c QQ X hRf hRl hret
  obtain ⟨hx, hb, hml, hown, hts, hE⟩ := id X
  intro H ls hR hS hl
  have hl : lv_has ls 3 [(0, .ref o), (1, .int x1)] := hl
  generalize ([] : List Loc) = locs at hS ⊢
  unfold wM_toldDegree at hw
  refine lv_aload_n hx hb dX2_toldDegree_0 rfl (lv_at hl 0 rfl) ?_
  refine lv_iload_n hx hb dX2_toldDegree_1 rfl (lv_at hl 1 rfl) ?_
  refine mc_vir (As := [.int x1]) (rest := []) X (mM_degreeOf l G o ρ hap σ x1 _ hw) (lw_V q2249 q2251 qs53 q_ini2 q2252) hd2_degreeOf (mm_le hRf rfl) (mm_le hRl rfl) rfl rfl (Nat.le_of_ble_eq_true rfl) dX2_toldDegree_2 hR hS hl.1 (fun r2 H locs hw hR hS => ?_)
  refine lv_istore_n (lv' := [(2, .int r2), (0, .ref o), (1, .int x1)]) hx hb dX2_toldDegree_5 rfl hl (by decide) rfl (fun ls hl => ?_)
  refine lv_iload_n hx hb dX2_toldDegree_6 rfl (lv_at hl 0 rfl) ?_
  have hK7 : ∀ (y7_0 : Int32), y7_0 = (if 0 ≤ r2 then r2 else (-10)) → ∀ (ls : Array Slot), lv_has ls 3 [] → W p l e R s m args below meth c H locs 0 0 QQ (F0 m 16 ls [.int y7_0]) := by
    intro y7_0 e_y7_0 ls hl
    have hw := hw y7_0 e_y7_0
    exact hret _ _ _ _ _ _ ⟨rfl, hw⟩ hR hS dX2_toldDegree_16
  refine lv_if_ge (tgt := 15) hx hb dX2_toldDegree_7 (by decide) (fun c_7 => ?_) (fun c_7 => ?_)
  · refine lv_iload_n hx hb dX2_toldDegree_15 rfl (lv_at hl 0 rfl) ?_
    exact hK7 _ (if_pos c_7).symm ls (lv_sub hl [] rfl)
  · refine lv_bipush (v := (-10)) hx hb dX2_toldDegree_10 (by decide) ?_
    refine lv_goto (tgt := 16) hx hb dX2_toldDegree_12 (by decide) ?_
    exact hK7 _ (if_neg c_7).symm ls (lv_sub hl [] rfl)
def wM_text (σ : mS) (x1 : Int32) (Q : Int32 → mS → Prop) : Prop :=
  wM_isSlot x1 (fun r1 => ((r1 = 0 → Q ((-1) : Int32) σ) ∧ (¬ r1 = 0 → wM_readsAll σ  (fun r10 σ10 => ∀ σ16 : mS, σ16 = mpi σ10 5 0 → ((r10 = 0 → Q ((-100) - (mgi σ16 6)) σ16) ∧ (¬ r10 = 0 → wM_takesRead σ16 x1 (fun r33 σ33 => ((r33 = 0 → Q ((-3) : Int32) σ33) ∧ (¬ r33 = 0 → wM_toldDegree σ33 x1 (fun r41 => Q r41 σ33))))))))))
set_option maxHeartbeats 4000000 in
theorem mM_text (l : Launch) (G : mG) (o : Nat) (ρ : Nat → Nat) (hap : mAp o ρ) (σ : mS) (x1 : Int32) (Q : Int32 → mS → Prop) (hw : wM_text σ x1 Q) : mMetI l G yX2_text (ws_ yX2_text cX2_text 3 (some .int)) 5 108 o ρ [.ref o, .int x1] σ Q := by
  refine mo_I plain2 rfl (Nat.le_of_ble_eq_true rfl) ?_
  intro p e s R m args below meth c QQ X hRf hRl hret
  obtain ⟨hx, hb, hml, hown, hts, hE⟩ := id X
  intro H ls hR hS hl
  have hl : lv_has ls 3 [(0, .ref o), (1, .int x1)] := hl
  generalize ([] : List Loc) = locs at hS ⊢
  unfold wM_text at hw
  refine lv_iload_n hx hb dX2_text_0 rfl (lv_at hl 1 rfl) ?_
  refine mc_si (As := [.int x1]) (rest := []) X (mM_isSlot l x1 _ hw) (lw_S q2209 q2210 q_ini2 q2211) hd2_isSlot (mm_le hRf rfl) (mm_le hRl rfl) rfl rfl (Nat.le_of_ble_eq_true rfl) dX2_text_1 hR hS hl.1 (fun r1 H locs hw hR hS => ?_)
  refine lv_if_ne (tgt := 9) hx hb dX2_text_4 (by decide) (fun c_4 => ?_) (fun c_4 => ?_)
  · have hw := hw.2 c_4
    refine lv_aload_n hx hb dX2_text_9 rfl (lv_at hl 0 rfl) ?_
    refine mc_vi (As := []) (rest := []) X (mM_readsAll l G o ρ hap σ  _ hw) (lw_V q2212 q2214 qs45 q_ini2 q2215) hd2_readsAll (mm_le hRf rfl) (mm_le hRl rfl) rfl rfl (Nat.le_of_ble_eq_true rfl) dX2_text_10 hR hS hl.1 (fun r10 σ10 H locs hw hR hS => ?_)
    refine lv_istore_n (lv' := [(2, .int r10), (0, .ref o), (1, .int x1)]) hx hb dX2_text_13 rfl hl (by decide) rfl (fun ls hl => ?_)
    refine lv_aload_n hx hb dX2_text_14 rfl (lv_at hl 1 rfl) ?_
    refine lv_iconst (v := 0) hx hb dX2_text_15 (by decide) ?_
    refine mp_5 hx hb hts hown hE hap hR hS dX2_text_16 (fun σ16 e_σ16 H locs hR hS => ?_)
    have hw := hw σ16 e_σ16
    clear e_σ16
    refine lv_iload_n hx hb dX2_text_19 rfl (lv_at hl 0 rfl) ?_
    refine lv_if_ne (tgt := 31) hx hb dX2_text_20 (by decide) (fun c_20 => ?_) (fun c_20 => ?_)
    · have hw := hw.2 c_20
      refine lv_aload_n hx hb dX2_text_31 rfl (lv_at hl 1 rfl) ?_
      refine lv_iload_n hx hb dX2_text_32 rfl (lv_at hl 2 rfl) ?_
      refine mc_vi (As := [.int x1]) (rest := []) X (mM_takesRead l G o ρ hap σ16 x1 _ hw) (lw_V q2239 q2241 qs51 q_ini2 q2242) hd2_takesRead (mm_le hRf rfl) (mm_le hRl rfl) rfl rfl (Nat.le_of_ble_eq_true rfl) dX2_text_33 hR hS hl.1 (fun r33 σ33 H locs hw hR hS => ?_)
      refine lv_if_eq (tgt := 47) hx hb dX2_text_36 (by decide) (fun c_36 => ?_) (fun c_36 => ?_)
      · have hw := hw.1 c_36
        refine lv_bipush (v := (-3)) hx hb dX2_text_47 (by decide) ?_
        exact hret _ _ _ _ _ _ hw hR hS dX2_text_49
      · have hw := hw.2 c_36
        refine lv_aload_n hx hb dX2_text_39 rfl (lv_at hl 1 rfl) ?_
        refine lv_iload_n hx hb dX2_text_40 rfl (lv_at hl 2 rfl) ?_
        refine mc_vir (As := [.int x1]) (rest := []) X (mM_toldDegree l G o ρ hap σ33 x1 _ hw) (lw_V q2245 q2247 qs52 q_ini2 q2248) hd2_toldDegree (mm_le hRf rfl) (mm_le hRl rfl) rfl rfl (Nat.le_of_ble_eq_true rfl) dX2_text_41 hR hS hl.1 (fun r41 H locs hw hR hS => ?_)
        refine lv_goto (tgt := 49) hx hb dX2_text_44 (by decide) ?_
        exact hret _ _ _ _ _ _ hw hR hS dX2_text_49
    · have hw := hw.1 c_20
      refine lv_bipush (v := (-100)) hx hb dX2_text_23 (by decide) ?_
      refine lv_aload_n hx hb dX2_text_25 rfl (lv_at hl 1 rfl) ?_
      refine mg_6 hx hb hts hown hE hR dX2_text_26 ?_
      refine lv_isub hx hb dX2_text_29 ?_
      exact hret _ _ _ _ _ _ hw hR hS dX2_text_30
  · have hw := hw.1 c_4
    refine lv_iconst (v := (-1)) hx hb dX2_text_7 (by decide) ?_
    exact hret _ _ _ _ _ _ hw hR hS dX2_text_8
def wM_isPower  (x0 : Int32) (Q : Int32 → Prop) : Prop :=
  ∀ y1_0 : Int32, y1_0 = (if x0 < 0 then 0 else (if (9 : Int32) ≤ x0 then 0 else 1)) → (y1_0 = 0 ∨ y1_0 = 1) ∧ Q y1_0
set_option maxHeartbeats 4000000 in
theorem mM_isPower (l : Launch) (x0 : Int32) (Q : Int32 → Prop) (hw : wM_isPower x0 Q) : mMetS l yX2_isPower (ws_ yX2_isPower cX2_isPower 1 (some .boolean)) 0 0 [.int x0] Q := by
  refine mo_SZ plain2 (Nat.le_of_ble_eq_true rfl) ?_
  intro p e s R m args below meth c QQ X hRf hRl hret
  have X : sCtx p s m args c RX2 cX2_isPower 1 := X
  obtain ⟨hx, hb, hml, hown, hts⟩ := id X
  intro H ls hS hl
  have hl : lv_has ls 1 [(0, .int x0)] := hl
  generalize ([] : List Loc) = locs at hS ⊢
  unfold wM_isPower at hw
  refine lv_iload_n hx hb dX2_isPower_0 rfl (lv_at hl 0 rfl) ?_
  have hK1 : ∀ (y1_0 : Int32), y1_0 = (if x0 < 0 then 0 else (if (9 : Int32) ≤ x0 then 0 else 1)) → ∀ (ls : Array Slot), lv_has ls 1 [] → W p l e R s m args below meth c H locs 0 0 QQ (F0 m 15 ls [.int y1_0]) := by
    intro y1_0 e_y1_0 ls hl
    have hw := hw y1_0 e_y1_0
    obtain ⟨hz, hw⟩ := hw
    exact hret _ _ _ _ _ hw hz hS dX2_isPower_15
  refine lv_if_lt (tgt := 14) hx hb dX2_isPower_1 (by decide) (fun c_1 => ?_) (fun c_1 => ?_)
  · refine lv_iconst (v := 0) hx hb dX2_isPower_14 (by decide) ?_
    exact hK1 _ (if_pos c_1).symm ls (lv_sub hl [] rfl)
  · refine lv_iload_n hx hb dX2_isPower_4 rfl (lv_at hl 0 rfl) ?_
    refine lv_bipush (v := 9) hx hb dX2_isPower_5 (by decide) ?_
    refine lv_icmp_ge (tgt := 14) hx hb dX2_isPower_7 (by decide) (fun c_7 => ?_) (fun c_7 => ?_)
    · refine lv_iconst (v := 0) hx hb dX2_isPower_14 (by decide) ?_
      exact hK1 _ ((if_pos c_7).symm.trans (if_neg c_1).symm) ls (lv_sub hl [] rfl)
    · refine lv_iconst (v := 1) hx hb dX2_isPower_10 (by decide) ?_
      refine lv_goto (tgt := 15) hx hb dX2_isPower_11 (by decide) ?_
      exact hK1 _ ((if_neg c_7).symm.trans (if_neg c_1).symm) ls (lv_sub hl [] rfl)
def wM_set (σ : mS) (x1 : Int32) (x2 : Int32) (x3 : Int32) (Q : Int64 → mS → Prop) : Prop :=
  wM_isSlot x1 (fun r1 => ((r1 = 0 → Q ((-9223372036854775808) : Int64) σ) ∧ (¬ r1 = 0 → wM_isPower x2 (fun r8 => ((r8 = 0 → Q ((-9223372036854775808) : Int64) σ) ∧ (¬ r8 = 0 → wM_in (x3).toInt64 ((-9999) : Int64) (9999 : Int64) (fun r22 => ((r22 = 0 → Q ((-9223372036854775808) : Int64) σ) ∧ (¬ r22 = 0 → wM_coefficient σ x1 x2 (fun r35 => vp_in ((9 * x1) + x2) 45 ∧ (∀ σ51 : mS, σ51 = mpa σ 3 ((9 * x1) + x2).toNatClampNeg x3 → Q (r35).toInt64 σ51)))))))))))
set_option maxHeartbeats 4000000 in
theorem mM_set (l : Launch) (G : mG) (o : Nat) (ρ : Nat → Nat) (hap : mAp o ρ) (σ : mS) (x1 : Int32) (x2 : Int32) (x3 : Int32) (Q : Int64 → mS → Prop) (hw : wM_set σ x1 x2 x3 Q) : mMetL l G yX2_set (ws_ yX2_set cX2_set 5 (some .long)) 1 25 o ρ [.ref o, .int x1, .int x2, .int x3] σ Q := by
  refine mo_L plain2 rfl (Nat.le_of_ble_eq_true rfl) ?_
  intro p e s R m args below meth c QQ X hRf hRl hret
  obtain ⟨hx, hb, hml, hown, hts, hE⟩ := id X
  intro H ls hR hS hl
  have hl : lv_has ls 5 [(0, .ref o), (1, .int x1), (2, .int x2), (3, .int x3)] := hl
  generalize ([] : List Loc) = locs at hS ⊢
  unfold wM_set at hw
  refine lv_iload_n hx hb dX2_set_0 rfl (lv_at hl 1 rfl) ?_
  refine mc_si (As := [.int x1]) (rest := []) X (mM_isSlot l x1 _ hw) (lw_S q2209 q2210 q_ini2 q2211) hd2_isSlot (mm_le hRf rfl) (mm_le hRl rfl) rfl rfl (Nat.le_of_ble_eq_true rfl) dX2_set_1 hR hS hl.1 (fun r1 H locs hw hR hS => ?_)
  refine lv_if_eq (tgt := 28) hx hb dX2_set_4 (by decide) (fun c_4 => ?_) (fun c_4 => ?_)
  · have hw := hw.1 c_4
    refine lv_ldc2 (v := (-9223372036854775808)) hx hb hown (hts _ q2264) dX2_set_28 ?_
    exact hret _ _ _ _ _ _ hw hR hS dX2_set_31
  · have hw := hw.2 c_4
    refine lv_iload_n hx hb dX2_set_7 rfl (lv_at hl 2 rfl) ?_
    refine mc_si (As := [.int x2]) (rest := []) X (mM_isPower l x2 _ hw) (lw_S q2261 q2262 q_ini2 q2263) hd2_isPower (mm_le hRf rfl) (mm_le hRl rfl) rfl rfl (Nat.le_of_ble_eq_true rfl) dX2_set_8 hR hS hl.1 (fun r8 H locs hw hR hS => ?_)
    refine lv_if_eq (tgt := 28) hx hb dX2_set_11 (by decide) (fun c_11 => ?_) (fun c_11 => ?_)
    · have hw := hw.1 c_11
      refine lv_ldc2 (v := (-9223372036854775808)) hx hb hown (hts _ q2264) dX2_set_28 ?_
      exact hret _ _ _ _ _ _ hw hR hS dX2_set_31
    · have hw := hw.2 c_11
      refine lv_iload_n hx hb dX2_set_14 rfl (lv_at hl 3 rfl) ?_
      refine lv_i2l hx hb dX2_set_15 rfl ?_
      refine lv_ldc2 (v := (-9999)) hx hb hown (hts _ q2243) dX2_set_16 ?_
      refine lv_ldc2 (v := 9999) hx hb hown (hts _ q2244) dX2_set_19 ?_
      refine mc_si (As := [.long (x3).toInt64, .long ((-9999) : Int64), .long (9999 : Int64)]) (rest := []) X (mM_in l (x3).toInt64 ((-9999) : Int64) (9999 : Int64) _ hw) (lw_S q2198 q2199 q_ini2 q2200) hd2_in (mm_le hRf rfl) (mm_le hRl rfl) rfl rfl (Nat.le_of_ble_eq_true rfl) dX2_set_22 hR hS hl.1 (fun r22 H locs hw hR hS => ?_)
      refine lv_if_ne (tgt := 32) hx hb dX2_set_25 (by decide) (fun c_25 => ?_) (fun c_25 => ?_)
      · have hw := hw.2 c_25
        refine lv_aload_n hx hb dX2_set_32 rfl (lv_at hl 0 rfl) ?_
        refine lv_iload_n hx hb dX2_set_33 rfl (lv_at hl 1 rfl) ?_
        refine lv_iload_n hx hb dX2_set_34 rfl (lv_at hl 2 rfl) ?_
        refine mc_vir (As := [.int x1, .int x2]) (rest := []) X (mM_coefficient l G o ρ hap σ x1 x2 _ hw) (lw_V q2253 q2255 qs54 q_ini2 q2256) hd2_coefficient (mm_le hRf rfl) (mm_le hRl rfl) rfl rfl (Nat.le_of_ble_eq_true rfl) dX2_set_35 hR hS hl.1 (fun r35 H locs hw hR hS => ?_)
        refine lv_istore (lv' := [(4, .int r35), (0, .ref o), (1, .int x1), (2, .int x2), (3, .int x3)]) hx hb dX2_set_38 hl (by decide) rfl (fun ls hl => ?_)
        refine lv_aload_n hx hb dX2_set_40 rfl (lv_at hl 1 rfl) ?_
        refine mg_3 hx hb hts hown hE hR dX2_set_41 ?_
        refine lv_bipush (v := 9) hx hb dX2_set_44 (by decide) ?_
        refine lv_iload_n hx hb dX2_set_46 rfl (lv_at hl 2 rfl) ?_
        refine lv_imul hx hb dX2_set_47 ?_
        refine lv_iload_n hx hb dX2_set_48 rfl (lv_at hl 3 rfl) ?_
        refine lv_iadd hx hb dX2_set_49 ?_
        refine lv_iload_n hx hb dX2_set_50 rfl (lv_at hl 4 rfl) ?_
        obtain ⟨hi_51, hw⟩ := hw
        refine mst_3 hx hb hE hap hR hS hi_51 dX2_set_51 (fun σ51 e_σ51 H locs hR hS => ?_)
        have hw := hw σ51 e_σ51
        clear e_σ51
        refine lv_iload hx hb dX2_set_52 (lv_at hl 0 rfl) ?_
        refine lv_i2l hx hb dX2_set_54 rfl ?_
        exact hret _ _ _ _ _ _ hw hR hS dX2_set_55
      · have hw := hw.1 c_25
        refine lv_ldc2 (v := (-9223372036854775808)) hx hb hown (hts _ q2264) dX2_set_28 ?_
        exact hret _ _ _ _ _ _ hw hR hS dX2_set_31
def wM_at_j24  (Q : Int64 → Prop) (σ : mS)   : Prop :=
  Q ((-9223372036854775808) : Int64)
def wM_at (σ : mS) (x1 : Int32) (x2 : Int32) (Q : Int64 → Prop) : Prop :=
  wM_isSlot x1 (fun r1 => ((r1 = 0 → (wM_at_j24  Q σ )) ∧ (¬ r1 = 0 → wM_isPower x2 (fun r8 => ((r8 = 0 → (wM_at_j24  Q σ )) ∧ (¬ r8 = 0 → wM_coefficient σ x1 x2 (fun r17 => Q (r17).toInt64)))))))
set_option maxHeartbeats 4000000 in
theorem mM_at (l : Launch) (G : mG) (o : Nat) (ρ : Nat → Nat) (hap : mAp o ρ) (σ : mS) (x1 : Int32) (x2 : Int32) (Q : Int64 → Prop) (hw : wM_at σ x1 x2 Q) : mMetL l G yX2_at (ws_ yX2_at cX2_at 3 (some .long)) 1 22 o ρ [.ref o, .int x1, .int x2] σ (fun r τ => σ = τ ∧ Q r) := by
  refine mo_L plain2 rfl (Nat.le_of_ble_eq_true rfl) ?_
  intro p e s R m args below meth c QQ X hRf hRl hret
  obtain ⟨hx, hb, hml, hown, hts, hE⟩ := id X
  have hJ24 : wM_at_j24  Q σ  → ∀ (H : Heap) (locs : List Loc) (ls : Array Slot), mR G o ρ σ H → va_S (mA o ρ) s.heap H locs → lv_has ls 3 [] → W p l e R s m args below meth c H locs 0 0 QQ (F0 m 24 ls []) := by
    intro  hw H locs ls hR hS hl
    unfold wM_at_j24 at hw
    refine lv_ldc2 (v := (-9223372036854775808)) hx hb hown (hts _ q2264) dX2_at_24 ?_
    exact hret _ _ _ _ _ _ ⟨rfl, hw⟩ hR hS dX2_at_27
  intro H ls hR hS hl
  have hl : lv_has ls 3 [(0, .ref o), (1, .int x1), (2, .int x2)] := hl
  generalize ([] : List Loc) = locs at hS ⊢
  unfold wM_at at hw
  refine lv_iload_n hx hb dX2_at_0 rfl (lv_at hl 1 rfl) ?_
  refine mc_si (As := [.int x1]) (rest := []) X (mM_isSlot l x1 _ hw) (lw_S q2209 q2210 q_ini2 q2211) hd2_isSlot (mm_le hRf rfl) (mm_le hRl rfl) rfl rfl (Nat.le_of_ble_eq_true rfl) dX2_at_1 hR hS hl.1 (fun r1 H locs hw hR hS => ?_)
  refine lv_if_eq (tgt := 24) hx hb dX2_at_4 (by decide) (fun c_4 => ?_) (fun c_4 => ?_)
  · have hw := hw.1 c_4
    exact hJ24  hw H locs ls hR hS (lv_sub hl [] rfl)
  · have hw := hw.2 c_4
    refine lv_iload_n hx hb dX2_at_7 rfl (lv_at hl 2 rfl) ?_
    refine mc_si (As := [.int x2]) (rest := []) X (mM_isPower l x2 _ hw) (lw_S q2261 q2262 q_ini2 q2263) hd2_isPower (mm_le hRf rfl) (mm_le hRl rfl) rfl rfl (Nat.le_of_ble_eq_true rfl) dX2_at_8 hR hS hl.1 (fun r8 H locs hw hR hS => ?_)
    refine lv_if_eq (tgt := 24) hx hb dX2_at_11 (by decide) (fun c_11 => ?_) (fun c_11 => ?_)
    · have hw := hw.1 c_11
      exact hJ24  hw H locs ls hR hS (lv_sub hl [] rfl)
    · have hw := hw.2 c_11
      refine lv_aload_n hx hb dX2_at_14 rfl (lv_at hl 0 rfl) ?_
      refine lv_iload_n hx hb dX2_at_15 rfl (lv_at hl 1 rfl) ?_
      refine lv_iload_n hx hb dX2_at_16 rfl (lv_at hl 2 rfl) ?_
      refine mc_vir (As := [.int x1, .int x2]) (rest := []) X (mM_coefficient l G o ρ hap σ x1 x2 _ hw) (lw_V q2253 q2255 qs54 q_ini2 q2256) hd2_coefficient (mm_le hRf rfl) (mm_le hRl rfl) rfl rfl (Nat.le_of_ble_eq_true rfl) dX2_at_17 hR hS hl.1 (fun r17 H locs hw hR hS => ?_)
      refine lv_i2l hx hb dX2_at_20 rfl ?_
      refine lv_goto (tgt := 27) hx hb dX2_at_21 (by decide) ?_
      exact hret _ _ _ _ _ _ ⟨rfl, hw⟩ hR hS dX2_at_27
def wM_isMonic_j24  (Q : Int32 → Prop) (σ : mS)   : Prop :=
  Q (0 : Int32)
def wM_isMonic (σ : mS) (x1 : Int32) (Q : Int32 → Prop) : Prop :=
  wM_degreeOf σ x1 (fun r2 => ((r2 ≤ 0 → (wM_isMonic_j24  Q σ )) ∧ (¬ r2 ≤ 0 → wM_coefficient σ x1 r2 (fun r13 => ((r13 = (1 : Int32) → Q (1 : Int32)) ∧ (¬ r13 = (1 : Int32) → (wM_isMonic_j24  Q σ )))))))
set_option maxHeartbeats 4000000 in
theorem mM_isMonic (l : Launch) (G : mG) (o : Nat) (ρ : Nat → Nat) (hap : mAp o ρ) (σ : mS) (x1 : Int32) (Q : Int32 → Prop) (hw : wM_isMonic σ x1 Q) : mMetI l G yX2_isMonic (ws_ yX2_isMonic cX2_isMonic 3 (some .boolean)) 2 45 o ρ [.ref o, .int x1] σ (fun r τ => σ = τ ∧ Q r) := by
  refine mo_Z plain2 rfl (Nat.le_of_ble_eq_true rfl) ?_
  intro p e s R m args below meth c QQ X hRf hRl hret
  obtain ⟨hx, hb, hml, hown, hts, hE⟩ := id X
  have hJ24 : wM_isMonic_j24  Q σ  → ∀ (H : Heap) (locs : List Loc) (ls : Array Slot), mR G o ρ σ H → va_S (mA o ρ) s.heap H locs → lv_has ls 3 [] → W p l e R s m args below meth c H locs 0 0 QQ (F0 m 24 ls []) := by
    intro  hw H locs ls hR hS hl
    unfold wM_isMonic_j24 at hw
    refine lv_iconst (v := 0) hx hb dX2_isMonic_24 (by decide) ?_
    exact hret _ _ _ _ _ _ ⟨rfl, hw⟩ (by decide) hR hS dX2_isMonic_25
  intro H ls hR hS hl
  have hl : lv_has ls 3 [(0, .ref o), (1, .int x1)] := hl
  generalize ([] : List Loc) = locs at hS ⊢
  unfold wM_isMonic at hw
  refine lv_aload_n hx hb dX2_isMonic_0 rfl (lv_at hl 0 rfl) ?_
  refine lv_iload_n hx hb dX2_isMonic_1 rfl (lv_at hl 1 rfl) ?_
  refine mc_vir (As := [.int x1]) (rest := []) X (mM_degreeOf l G o ρ hap σ x1 _ hw) (lw_V q2249 q2251 qs53 q_ini2 q2252) hd2_degreeOf (mm_le hRf rfl) (mm_le hRl rfl) rfl rfl (Nat.le_of_ble_eq_true rfl) dX2_isMonic_2 hR hS hl.1 (fun r2 H locs hw hR hS => ?_)
  refine lv_istore_n (lv' := [(2, .int r2), (0, .ref o), (1, .int x1)]) hx hb dX2_isMonic_5 rfl hl (by decide) rfl (fun ls hl => ?_)
  refine lv_iload_n hx hb dX2_isMonic_6 rfl (lv_at hl 0 rfl) ?_
  refine lv_if_le (tgt := 24) hx hb dX2_isMonic_7 (by decide) (fun c_7 => ?_) (fun c_7 => ?_)
  · have hw := hw.1 c_7
    exact hJ24  hw H locs ls hR hS (lv_sub hl [] rfl)
  · have hw := hw.2 c_7
    refine lv_aload_n hx hb dX2_isMonic_10 rfl (lv_at hl 1 rfl) ?_
    refine lv_iload_n hx hb dX2_isMonic_11 rfl (lv_at hl 2 rfl) ?_
    refine lv_iload_n hx hb dX2_isMonic_12 rfl (lv_at hl 0 rfl) ?_
    refine mc_vir (As := [.int x1, .int r2]) (rest := []) X (mM_coefficient l G o ρ hap σ x1 r2 _ hw) (lw_V q2253 q2255 qs54 q_ini2 q2256) hd2_coefficient (mm_le hRf rfl) (mm_le hRl rfl) rfl rfl (Nat.le_of_ble_eq_true rfl) dX2_isMonic_13 hR hS hl.1 (fun r13 H locs hw hR hS => ?_)
    refine lv_iconst (v := 1) hx hb dX2_isMonic_16 (by decide) ?_
    refine lv_icmp_ne (tgt := 24) hx hb dX2_isMonic_17 (by decide) (fun c_17 => ?_) (fun c_17 => ?_)
    · have hw := hw.2 c_17
      exact hJ24  hw H locs ls hR hS (lv_sub hl [] rfl)
    · have hw := hw.1 c_17
      refine lv_iconst (v := 1) hx hb dX2_isMonic_20 (by decide) ?_
      refine lv_goto (tgt := 25) hx hb dX2_isMonic_21 (by decide) ?_
      exact hret _ _ _ _ _ _ ⟨rfl, hw⟩ (by decide) hR hS dX2_isMonic_25
def wM_told (σ : mS) (x1 : Int32) (x2 : Int32) (Q : Int32 → Prop) : Prop :=
  wM_isSlot x1 (fun r1 => ((r1 = 0 → Q ((-1) : Int32)) ∧ (¬ r1 = 0 → wM_in (x2).toInt64 (0 : Int64) (1 : Int64) (fun r11 => ((r11 = 0 → Q ((-1) : Int32)) ∧ (¬ r11 = 0 → ((x2 = 0 → wM_toldDegree σ x1 (fun r25 => Q r25)) ∧ (¬ x2 = 0 → wM_isMonic σ x1 (fun r33 => ∀ y36_0 : Int32, y36_0 = (if r33 = 0 then 0 else 1) → Q y36_0)))))))))
set_option maxHeartbeats 4000000 in
theorem mM_told (l : Launch) (G : mG) (o : Nat) (ρ : Nat → Nat) (hap : mAp o ρ) (σ : mS) (x1 : Int32) (x2 : Int32) (Q : Int32 → Prop) (hw : wM_told σ x1 x2 Q) : mMetI l G yX2_told (ws_ yX2_told cX2_told 3 (some .int)) 3 67 o ρ [.ref o, .int x1, .int x2] σ (fun r τ => σ = τ ∧ Q r) := by
  refine mo_I plain2 rfl (Nat.le_of_ble_eq_true rfl) ?_
  intro p e s R m args below meth c QQ X hRf hRl hret
  obtain ⟨hx, hb, hml, hown, hts, hE⟩ := id X
  intro H ls hR hS hl
  have hl : lv_has ls 3 [(0, .ref o), (1, .int x1), (2, .int x2)] := hl
  generalize ([] : List Loc) = locs at hS ⊢
  unfold wM_told at hw
  refine lv_iload_n hx hb dX2_told_0 rfl (lv_at hl 1 rfl) ?_
  refine mc_si (As := [.int x1]) (rest := []) X (mM_isSlot l x1 _ hw) (lw_S q2209 q2210 q_ini2 q2211) hd2_isSlot (mm_le hRf rfl) (mm_le hRl rfl) rfl rfl (Nat.le_of_ble_eq_true rfl) dX2_told_1 hR hS hl.1 (fun r1 H locs hw hR hS => ?_)
  refine lv_if_eq (tgt := 17) hx hb dX2_told_4 (by decide) (fun c_4 => ?_) (fun c_4 => ?_)
  · have hw := hw.1 c_4
    refine lv_iconst (v := (-1)) hx hb dX2_told_17 (by decide) ?_
    exact hret _ _ _ _ _ _ ⟨rfl, hw⟩ hR hS dX2_told_18
  · have hw := hw.2 c_4
    refine lv_iload_n hx hb dX2_told_7 rfl (lv_at hl 2 rfl) ?_
    refine lv_i2l hx hb dX2_told_8 rfl ?_
    refine lv_lconst (v := 0) hx hb dX2_told_9 (by decide) ?_
    refine lv_lconst (v := 1) hx hb dX2_told_10 (by decide) ?_
    refine mc_si (As := [.long (x2).toInt64, .long (0 : Int64), .long (1 : Int64)]) (rest := []) X (mM_in l (x2).toInt64 (0 : Int64) (1 : Int64) _ hw) (lw_S q2198 q2199 q_ini2 q2200) hd2_in (mm_le hRf rfl) (mm_le hRl rfl) rfl rfl (Nat.le_of_ble_eq_true rfl) dX2_told_11 hR hS hl.1 (fun r11 H locs hw hR hS => ?_)
    refine lv_if_ne (tgt := 19) hx hb dX2_told_14 (by decide) (fun c_14 => ?_) (fun c_14 => ?_)
    · have hw := hw.2 c_14
      refine lv_iload_n hx hb dX2_told_19 rfl (lv_at hl 2 rfl) ?_
      refine lv_if_ne (tgt := 31) hx hb dX2_told_20 (by decide) (fun c_20 => ?_) (fun c_20 => ?_)
      · have hw := hw.2 c_20
        refine lv_aload_n hx hb dX2_told_31 rfl (lv_at hl 0 rfl) ?_
        refine lv_iload_n hx hb dX2_told_32 rfl (lv_at hl 1 rfl) ?_
        refine mc_vir (As := [.int x1]) (rest := []) X (mM_isMonic l G o ρ hap σ x1 _ hw) (lw_V q2273 q2275 qs55 q_ini2 q2276) hd2_isMonic (mm_le hRf rfl) (mm_le hRl rfl) rfl rfl (Nat.le_of_ble_eq_true rfl) dX2_told_33 hR hS hl.1 (fun r33 H locs hw hR hS => ?_)
        have hK36 : ∀ (y36_0 : Int32), y36_0 = (if r33 = 0 then 0 else 1) → ∀ (ls : Array Slot), lv_has ls 3 [] → W p l e R s m args below meth c H locs 0 0 QQ (F0 m 44 ls [.int y36_0]) := by
          intro y36_0 e_y36_0 ls hl
          have hw := hw y36_0 e_y36_0
          exact hret _ _ _ _ _ _ ⟨rfl, hw⟩ hR hS dX2_told_44
        refine lv_if_eq (tgt := 43) hx hb dX2_told_36 (by decide) (fun c_36 => ?_) (fun c_36 => ?_)
        · refine lv_iconst (v := 0) hx hb dX2_told_43 (by decide) ?_
          exact hK36 _ (if_pos c_36).symm ls (lv_sub hl [] rfl)
        · refine lv_iconst (v := 1) hx hb dX2_told_39 (by decide) ?_
          refine lv_goto (tgt := 44) hx hb dX2_told_40 (by decide) ?_
          exact hK36 _ (if_neg c_36).symm ls (lv_sub hl [] rfl)
      · have hw := hw.1 c_20
        refine lv_aload_n hx hb dX2_told_23 rfl (lv_at hl 0 rfl) ?_
        refine lv_iload_n hx hb dX2_told_24 rfl (lv_at hl 1 rfl) ?_
        refine mc_vir (As := [.int x1]) (rest := []) X (mM_toldDegree l G o ρ hap σ x1 _ hw) (lw_V q2245 q2247 qs52 q_ini2 q2248) hd2_toldDegree (mm_le hRf rfl) (mm_le hRl rfl) rfl rfl (Nat.le_of_ble_eq_true rfl) dX2_told_25 hR hS hl.1 (fun r25 H locs hw hR hS => ?_)
        refine lv_goto (tgt := 44) hx hb dX2_told_28 (by decide) ?_
        exact hret _ _ _ _ _ _ ⟨rfl, hw⟩ hR hS dX2_told_44
    · have hw := hw.1 c_14
      refine lv_iconst (v := (-1)) hx hb dX2_told_17 (by decide) ?_
      exact hret _ _ _ _ _ _ ⟨rfl, hw⟩ hR hS dX2_told_18
def wM_mix_l27  (Q : Int32 → mS → Prop)  (x1 : Int32) (x2 : Int32) (x3 : Int32) (x4 : Int32) (x5 : Int32) : Nat → mS → Int32 → Prop
  | 0, _, _ => False
  | n + 1, σ, x6 => (((9 : Int32) ≤ x6 → wM_takesRead σ x5 (fun r74 σ74 => ∀ y77_0 : Int32, y77_0 = (if r74 = 0 then (-3) else 1) → Q y77_0 σ74)) ∧ (¬ (9 : Int32) ≤ x6 → wM_coefficient σ x1 x6 (fun r46 => wM_coefficient σ x3 x6 (fun r58 => vp_in x6 9 ∧ (∀ σ64 : mS, σ64 = mpl σ 7 x6.toNatClampNeg (((x2).toInt64 * (r46).toInt64) + ((x4).toInt64 * (r58).toInt64)) → wM_mix_l27  Q  x1 x2 x3 x4 x5 n σ64 (x6 + 1))))))
def wM_mix (σ : mS) (x1 : Int32) (x2 : Int32) (x3 : Int32) (x4 : Int32) (x5 : Int32) (Q : Int32 → mS → Prop) : Prop :=
  wM_isSlot x1 (fun r1 => ((r1 = 0 → Q ((-1) : Int32) σ) ∧ (¬ r1 = 0 → wM_isSlot x3 (fun r8 => ((r8 = 0 → Q ((-1) : Int32) σ) ∧ (¬ r8 = 0 → wM_isSlot x5 (fun r16 => ((r16 = 0 → Q ((-1) : Int32) σ) ∧ (¬ r16 = 0 → (∃ k27 : Nat, wM_mix_l27  Q  x1 x2 x3 x4 x5 k27 σ (0 : Int32)))))))))))
set_option maxHeartbeats 4000000 in
theorem mM_mix (l : Launch) (G : mG) (o : Nat) (ρ : Nat → Nat) (hap : mAp o ρ) (σ : mS) (x1 : Int32) (x2 : Int32) (x3 : Int32) (x4 : Int32) (x5 : Int32) (Q : Int32 → mS → Prop) (hw : wM_mix σ x1 x2 x3 x4 x5 Q) : mMetI l G yX2_mix (ws_ yX2_mix cX2_mix 7 (some .int)) 2 48 o ρ [.ref o, .int x1, .int x2, .int x3, .int x4, .int x5] σ Q := by
  refine mo_I plain2 rfl (Nat.le_of_ble_eq_true rfl) ?_
  intro p e s R m args below meth c QQ X hRf hRl hret
  obtain ⟨hx, hb, hml, hown, hts, hE⟩ := id X
  have hL27 : ∀ (x1 : Int32) (x2 : Int32) (x3 : Int32) (x4 : Int32) (x5 : Int32) (n27 : Nat) (σ : mS) (x6 : Int32), wM_mix_l27  Q  x1 x2 x3 x4 x5 n27 σ x6 → ∀ (H : Heap) (locs : List Loc) (ls : Array Slot), mR G o ρ σ H → va_S (mA o ρ) s.heap H locs → lv_has ls 7 [(0, .ref o), (1, .int x1), (2, .int x2), (3, .int x3), (4, .int x4), (5, .int x5), (6, .int x6)] → W p l e R s m args below meth c H locs 0 0 QQ (F0 m 27 ls []) := by
    intro x1 x2 x3 x4 x5 n27
    induction n27 with
    | zero => intro σ x6 hw; exact hw.elim
    | succ n27 ih27 =>
      intro σ x6 hw H locs ls hR hS hl
      rw [wM_mix_l27] at hw
      refine lv_iload hx hb dX2_mix_27 (lv_at hl 6 rfl) ?_
      refine lv_bipush (v := 9) hx hb dX2_mix_29 (by decide) ?_
      refine lv_icmp_ge (tgt := 71) hx hb dX2_mix_31 (by decide) (fun c_31 => ?_) (fun c_31 => ?_)
      · have hw := hw.1 c_31
        refine lv_aload_n hx hb dX2_mix_71 rfl (lv_at hl 0 rfl) ?_
        refine lv_iload hx hb dX2_mix_72 (lv_at hl 5 rfl) ?_
        refine mc_vi (As := [.int x5]) (rest := []) X (mM_takesRead l G o ρ hap σ x5 _ hw) (lw_V q2239 q2241 qs51 q_ini2 q2242) hd2_takesRead (mm_le hRf rfl) (mm_le hRl rfl) rfl rfl (Nat.le_of_ble_eq_true rfl) dX2_mix_74 hR hS hl.1 (fun r74 σ74 H locs hw hR hS => ?_)
        have hK77 : ∀ (y77_0 : Int32), y77_0 = (if r74 = 0 then (-3) else 1) → ∀ (ls : Array Slot), lv_has ls 7 [] → W p l e R s m args below meth c H locs 0 0 QQ (F0 m 86 ls [.int y77_0]) := by
          intro y77_0 e_y77_0 ls hl
          have hw := hw y77_0 e_y77_0
          exact hret _ _ _ _ _ _ hw hR hS dX2_mix_86
        refine lv_if_eq (tgt := 84) hx hb dX2_mix_77 (by decide) (fun c_77 => ?_) (fun c_77 => ?_)
        · refine lv_bipush (v := (-3)) hx hb dX2_mix_84 (by decide) ?_
          exact hK77 _ (if_pos c_77).symm ls (lv_sub hl [] rfl)
        · refine lv_iconst (v := 1) hx hb dX2_mix_80 (by decide) ?_
          refine lv_goto (tgt := 86) hx hb dX2_mix_81 (by decide) ?_
          exact hK77 _ (if_neg c_77).symm ls (lv_sub hl [] rfl)
      · have hw := hw.2 c_31
        refine lv_aload_n hx hb dX2_mix_34 rfl (lv_at hl 0 rfl) ?_
        refine mg_7 hx hb hts hown hE hR dX2_mix_35 ?_
        refine lv_iload hx hb dX2_mix_38 (lv_at hl 6 rfl) ?_
        refine lv_iload_n hx hb dX2_mix_40 rfl (lv_at hl 2 rfl) ?_
        refine lv_i2l hx hb dX2_mix_41 rfl ?_
        refine lv_aload_n hx hb dX2_mix_42 rfl (lv_at hl 0 rfl) ?_
        refine lv_iload_n hx hb dX2_mix_43 rfl (lv_at hl 1 rfl) ?_
        refine lv_iload hx hb dX2_mix_44 (lv_at hl 6 rfl) ?_
        refine mc_vir (As := [.int x1, .int x6]) (rest := [.long (x2).toInt64, .int x6, .ref (ρ 7)]) X (mM_coefficient l G o ρ hap σ x1 x6 _ hw) (lw_V q2253 q2255 qs54 q_ini2 q2256) hd2_coefficient (mm_le hRf rfl) (mm_le hRl rfl) rfl rfl (Nat.le_of_ble_eq_true rfl) dX2_mix_46 hR hS hl.1 (fun r46 H locs hw hR hS => ?_)
        refine lv_i2l hx hb dX2_mix_49 rfl ?_
        refine lv_lmul hx hb dX2_mix_50 ?_
        refine lv_iload hx hb dX2_mix_51 (lv_at hl 4 rfl) ?_
        refine lv_i2l hx hb dX2_mix_53 rfl ?_
        refine lv_aload_n hx hb dX2_mix_54 rfl (lv_at hl 0 rfl) ?_
        refine lv_iload_n hx hb dX2_mix_55 rfl (lv_at hl 3 rfl) ?_
        refine lv_iload hx hb dX2_mix_56 (lv_at hl 6 rfl) ?_
        refine mc_vir (As := [.int x3, .int x6]) (rest := [.long (x4).toInt64, .long ((x2).toInt64 * (r46).toInt64), .int x6, .ref (ρ 7)]) X (mM_coefficient l G o ρ hap σ x3 x6 _ hw) (lw_V q2253 q2255 qs54 q_ini2 q2256) hd2_coefficient (mm_le hRf rfl) (mm_le hRl rfl) rfl rfl (Nat.le_of_ble_eq_true rfl) dX2_mix_58 hR hS hl.1 (fun r58 H locs hw hR hS => ?_)
        refine lv_i2l hx hb dX2_mix_61 rfl ?_
        refine lv_lmul hx hb dX2_mix_62 ?_
        refine lv_ladd hx hb dX2_mix_63 ?_
        obtain ⟨hi_64, hw⟩ := hw
        refine mst_7 hx hb hE hap hR hS hi_64 dX2_mix_64 (fun σ64 e_σ64 H locs hR hS => ?_)
        have hw := hw σ64 e_σ64
        clear e_σ64
        refine lv_iinc (k := 6) (lv' := [(6, .int (x6 + 1)), (0, .ref o), (1, .int x1), (2, .int x2), (3, .int x3), (4, .int x4), (5, .int x5)]) hx hb dX2_mix_65 hl rfl (congrArg (x6 + ·) (by decide : Int32.ofInt 1 = 1)) (by decide) rfl (fun ls hl => ?_)
        refine lv_goto (tgt := 27) hx hb dX2_mix_68 (by decide) ?_
        exact ih27 σ64 (x6 + 1) hw H locs ls hR hS (lv_sub hl [1, 2, 3, 4, 5, 6, 0] rfl)
  intro H ls hR hS hl
  have hl : lv_has ls 7 [(0, .ref o), (1, .int x1), (2, .int x2), (3, .int x3), (4, .int x4), (5, .int x5)] := hl
  generalize ([] : List Loc) = locs at hS ⊢
  unfold wM_mix at hw
  refine lv_iload_n hx hb dX2_mix_0 rfl (lv_at hl 1 rfl) ?_
  refine mc_si (As := [.int x1]) (rest := []) X (mM_isSlot l x1 _ hw) (lw_S q2209 q2210 q_ini2 q2211) hd2_isSlot (mm_le hRf rfl) (mm_le hRl rfl) rfl rfl (Nat.le_of_ble_eq_true rfl) dX2_mix_1 hR hS hl.1 (fun r1 H locs hw hR hS => ?_)
  refine lv_if_eq (tgt := 22) hx hb dX2_mix_4 (by decide) (fun c_4 => ?_) (fun c_4 => ?_)
  · have hw := hw.1 c_4
    refine lv_iconst (v := (-1)) hx hb dX2_mix_22 (by decide) ?_
    exact hret _ _ _ _ _ _ hw hR hS dX2_mix_23
  · have hw := hw.2 c_4
    refine lv_iload_n hx hb dX2_mix_7 rfl (lv_at hl 3 rfl) ?_
    refine mc_si (As := [.int x3]) (rest := []) X (mM_isSlot l x3 _ hw) (lw_S q2209 q2210 q_ini2 q2211) hd2_isSlot (mm_le hRf rfl) (mm_le hRl rfl) rfl rfl (Nat.le_of_ble_eq_true rfl) dX2_mix_8 hR hS hl.1 (fun r8 H locs hw hR hS => ?_)
    refine lv_if_eq (tgt := 22) hx hb dX2_mix_11 (by decide) (fun c_11 => ?_) (fun c_11 => ?_)
    · have hw := hw.1 c_11
      refine lv_iconst (v := (-1)) hx hb dX2_mix_22 (by decide) ?_
      exact hret _ _ _ _ _ _ hw hR hS dX2_mix_23
    · have hw := hw.2 c_11
      refine lv_iload hx hb dX2_mix_14 (lv_at hl 5 rfl) ?_
      refine mc_si (As := [.int x5]) (rest := []) X (mM_isSlot l x5 _ hw) (lw_S q2209 q2210 q_ini2 q2211) hd2_isSlot (mm_le hRf rfl) (mm_le hRl rfl) rfl rfl (Nat.le_of_ble_eq_true rfl) dX2_mix_16 hR hS hl.1 (fun r16 H locs hw hR hS => ?_)
      refine lv_if_ne (tgt := 24) hx hb dX2_mix_19 (by decide) (fun c_19 => ?_) (fun c_19 => ?_)
      · have hw := hw.2 c_19
        refine lv_iconst (v := 0) hx hb dX2_mix_24 (by decide) ?_
        refine lv_istore (lv' := [(6, .int 0), (0, .ref o), (1, .int x1), (2, .int x2), (3, .int x3), (4, .int x4), (5, .int x5)]) hx hb dX2_mix_25 hl (by decide) rfl (fun ls hl => ?_)
        obtain ⟨n27, hw⟩ := hw
        exact hL27 x1 x2 x3 x4 x5 n27 σ (0 : Int32) hw H locs ls hR hS (lv_sub hl [1, 2, 3, 4, 5, 6, 0] rfl)
      · have hw := hw.1 c_19
        refine lv_iconst (v := (-1)) hx hb dX2_mix_22 (by decide) ?_
        exact hret _ _ _ _ _ _ hw hR hS dX2_mix_23
def wM_times_l81 (rec63 : mS → Int32 → Prop) (Q : Int32 → mS → Prop)  (x1 : Int32) (x2 : Int32) (x3 : Int32) (x6 : Int32) : Nat → mS → Int32 → Prop
  | 0, _, _ => False
  | n + 1, σ, x7 => ((x6 < x7 → rec63 σ (x6 + 1)) ∧ (¬ x6 < x7 → vp_in x6 9 ∧ (wM_coefficient σ x1 x7 (fun r100 => wM_coefficient σ x2 (x6 - x7) (fun r111 => vp_in x6 9 ∧ (∀ σ117 : mS, σ117 = mpl σ 7 x6.toNatClampNeg ((mgl σ 7 x6.toNatClampNeg) + ((r100).toInt64 * (r111).toInt64)) → wM_times_l81 rec63 Q  x1 x2 x3 x6 n σ117 (x7 + 1)))))))
def wM_times_l63  (Q : Int32 → mS → Prop)  (x1 : Int32) (x2 : Int32) (x3 : Int32) : Nat → mS → Int32 → Prop
  | 0, _, _ => False
  | n + 1, σ, x6 => (((9 : Int32) ≤ x6 → wM_takesRead σ x3 (fun r132 σ132 => ∀ y135_0 : Int32, y135_0 = (if r132 = 0 then (-3) else 1) → Q y135_0 σ132)) ∧ (¬ (9 : Int32) ≤ x6 → vp_in x6 9 ∧ (∀ σ77 : mS, σ77 = mpl σ 7 x6.toNatClampNeg 0 → (∃ k81 : Nat, wM_times_l81 (fun z z6 => wM_times_l63  Q  x1 x2 x3 n z z6) Q  x1 x2 x3 x6 k81 σ77 (0 : Int32)))))
def wM_times_j60  (Q : Int32 → mS → Prop) (σ : mS) (x1 : Int32) (x2 : Int32) (x3 : Int32)  : Prop :=
  (∃ k63 : Nat, wM_times_l63  Q  x1 x2 x3 k63 σ (0 : Int32))
def wM_times (σ : mS) (x1 : Int32) (x2 : Int32) (x3 : Int32) (Q : Int32 → mS → Prop) : Prop :=
  wM_isSlot x1 (fun r1 => ((r1 = 0 → Q ((-1) : Int32) σ) ∧ (¬ r1 = 0 → wM_isSlot x2 (fun r8 => ((r8 = 0 → Q ((-1) : Int32) σ) ∧ (¬ r8 = 0 → wM_isSlot x3 (fun r15 => ((r15 = 0 → Q ((-1) : Int32) σ) ∧ (¬ r15 = 0 → wM_degreeOf σ x1 (fun r25 => wM_degreeOf σ x2 (fun r32 => ((r25 < 0 → (wM_times_j60  Q σ x1 x2 x3)) ∧ (¬ r25 < 0 → ((r32 < 0 → (wM_times_j60  Q σ x1 x2 x3)) ∧ (¬ r32 < 0 → (((r25 + r32) ≤ (8 : Int32) → (wM_times_j60  Q σ x1 x2 x3)) ∧ (¬ (r25 + r32) ≤ (8 : Int32) → Q ((-6) : Int32) σ)))))))))))))))))
set_option maxHeartbeats 4000000 in
theorem mM_times (l : Launch) (G : mG) (o : Nat) (ρ : Nat → Nat) (hap : mAp o ρ) (σ : mS) (x1 : Int32) (x2 : Int32) (x3 : Int32) (Q : Int32 → mS → Prop) (hw : wM_times σ x1 x2 x3 Q) : mMetI l G yX2_times (ws_ yX2_times cX2_times 8 (some .int)) 2 48 o ρ [.ref o, .int x1, .int x2, .int x3] σ Q := by
  refine mo_I plain2 rfl (Nat.le_of_ble_eq_true rfl) ?_
  intro p e s R m args below meth c QQ X hRf hRl hret
  obtain ⟨hx, hb, hml, hown, hts, hE⟩ := id X
  have hL63 : ∀ (x1 : Int32) (x2 : Int32) (x3 : Int32) (n63 : Nat) (σ : mS) (x6 : Int32), wM_times_l63  Q  x1 x2 x3 n63 σ x6 → ∀ (H : Heap) (locs : List Loc) (ls : Array Slot), mR G o ρ σ H → va_S (mA o ρ) s.heap H locs → lv_has ls 8 [(0, .ref o), (1, .int x1), (2, .int x2), (3, .int x3), (6, .int x6)] → W p l e R s m args below meth c H locs 0 0 QQ (F0 m 63 ls []) := by
    intro x1 x2 x3 n63
    induction n63 with
    | zero => intro σ x6 hw; exact hw.elim
    | succ n63 ih63 =>
      have hL81 : ∀ (x6 : Int32) (n81 : Nat) (σ : mS) (x7 : Int32), wM_times_l81 (wM_times_l63  Q  x1 x2 x3 n63) Q  x1 x2 x3 x6 n81 σ x7 → ∀ (H : Heap) (locs : List Loc) (ls : Array Slot), mR G o ρ σ H → va_S (mA o ρ) s.heap H locs → lv_has ls 8 [(0, .ref o), (1, .int x1), (2, .int x2), (3, .int x3), (6, .int x6), (7, .int x7)] → W p l e R s m args below meth c H locs 0 0 QQ (F0 m 81 ls []) := by
        intro x6 n81
        induction n81 with
        | zero => intro σ x7 hw; exact hw.elim
        | succ n81 ih81 =>
          intro σ x7 hw H locs ls hR hS hl
          rw [wM_times_l81] at hw
          refine lv_iload hx hb dX2_times_81 (lv_at hl 5 rfl) ?_
          refine lv_iload hx hb dX2_times_83 (lv_at hl 4 rfl) ?_
          refine lv_icmp_gt (tgt := 124) hx hb dX2_times_85 (by decide) (fun c_85 => ?_) (fun c_85 => ?_)
          · have hw := hw.1 c_85
            refine lv_iinc (k := 4) (lv' := [(6, .int (x6 + 1)), (0, .ref o), (1, .int x1), (2, .int x2), (3, .int x3), (7, .int x7)]) hx hb dX2_times_124 hl rfl (congrArg (x6 + ·) (by decide : Int32.ofInt 1 = 1)) (by decide) rfl (fun ls hl => ?_)
            refine lv_goto (tgt := 63) hx hb dX2_times_127 (by decide) ?_
            exact ih63 σ (x6 + 1) hw H locs ls hR hS (lv_sub hl [1, 2, 3, 4, 0] rfl)
          · have hw := hw.2 c_85
            refine lv_aload_n hx hb dX2_times_88 rfl (lv_at hl 0 rfl) ?_
            refine mg_7 hx hb hts hown hE hR dX2_times_89 ?_
            refine lv_iload hx hb dX2_times_92 (lv_at hl 4 rfl) ?_
            refine lv_dup2_11 hx hb dX2_times_94 rfl rfl ?_
            obtain ⟨hi_95, hw⟩ := hw
            refine ma_7 hx hb hE hR hi_95 dX2_times_95 ?_
            refine lv_aload_n hx hb dX2_times_96 rfl (lv_at hl 0 rfl) ?_
            refine lv_iload_n hx hb dX2_times_97 rfl (lv_at hl 1 rfl) ?_
            refine lv_iload hx hb dX2_times_98 (lv_at hl 5 rfl) ?_
            refine mc_vir (As := [.int x1, .int x7]) (rest := [.long (mgl σ 7 x6.toNatClampNeg), .int x6, .ref (ρ 7)]) X (mM_coefficient l G o ρ hap σ x1 x7 _ hw) (lw_V q2253 q2255 qs54 q_ini2 q2256) hd2_coefficient (mm_le hRf rfl) (mm_le hRl rfl) rfl rfl (Nat.le_of_ble_eq_true rfl) dX2_times_100 hR hS hl.1 (fun r100 H locs hw hR hS => ?_)
            refine lv_i2l hx hb dX2_times_103 rfl ?_
            refine lv_aload_n hx hb dX2_times_104 rfl (lv_at hl 0 rfl) ?_
            refine lv_iload_n hx hb dX2_times_105 rfl (lv_at hl 2 rfl) ?_
            refine lv_iload hx hb dX2_times_106 (lv_at hl 4 rfl) ?_
            refine lv_iload hx hb dX2_times_108 (lv_at hl 5 rfl) ?_
            refine lv_isub hx hb dX2_times_110 ?_
            refine mc_vir (As := [.int x2, .int (x6 - x7)]) (rest := [.long (r100).toInt64, .long (mgl σ 7 x6.toNatClampNeg), .int x6, .ref (ρ 7)]) X (mM_coefficient l G o ρ hap σ x2 (x6 - x7) _ hw) (lw_V q2253 q2255 qs54 q_ini2 q2256) hd2_coefficient (mm_le hRf rfl) (mm_le hRl rfl) rfl rfl (Nat.le_of_ble_eq_true rfl) dX2_times_111 hR hS hl.1 (fun r111 H locs hw hR hS => ?_)
            refine lv_i2l hx hb dX2_times_114 rfl ?_
            refine lv_lmul hx hb dX2_times_115 ?_
            refine lv_ladd hx hb dX2_times_116 ?_
            obtain ⟨hi_117, hw⟩ := hw
            refine mst_7 hx hb hE hap hR hS hi_117 dX2_times_117 (fun σ117 e_σ117 H locs hR hS => ?_)
            have hw := hw σ117 e_σ117
            clear e_σ117
            refine lv_iinc (k := 5) (lv' := [(7, .int (x7 + 1)), (0, .ref o), (1, .int x1), (2, .int x2), (3, .int x3), (6, .int x6)]) hx hb dX2_times_118 hl rfl (congrArg (x7 + ·) (by decide : Int32.ofInt 1 = 1)) (by decide) rfl (fun ls hl => ?_)
            refine lv_goto (tgt := 81) hx hb dX2_times_121 (by decide) ?_
            exact ih81 σ117 (x7 + 1) hw H locs ls hR hS (lv_sub hl [1, 2, 3, 4, 5, 0] rfl)
      intro σ x6 hw H locs ls hR hS hl
      rw [wM_times_l63] at hw
      refine lv_iload hx hb dX2_times_63 (lv_at hl 4 rfl) ?_
      refine lv_bipush (v := 9) hx hb dX2_times_65 (by decide) ?_
      refine lv_icmp_ge (tgt := 130) hx hb dX2_times_67 (by decide) (fun c_67 => ?_) (fun c_67 => ?_)
      · have hw := hw.1 c_67
        refine lv_aload_n hx hb dX2_times_130 rfl (lv_at hl 0 rfl) ?_
        refine lv_iload_n hx hb dX2_times_131 rfl (lv_at hl 3 rfl) ?_
        refine mc_vi (As := [.int x3]) (rest := []) X (mM_takesRead l G o ρ hap σ x3 _ hw) (lw_V q2239 q2241 qs51 q_ini2 q2242) hd2_takesRead (mm_le hRf rfl) (mm_le hRl rfl) rfl rfl (Nat.le_of_ble_eq_true rfl) dX2_times_132 hR hS hl.1 (fun r132 σ132 H locs hw hR hS => ?_)
        have hK135 : ∀ (y135_0 : Int32), y135_0 = (if r132 = 0 then (-3) else 1) → ∀ (ls : Array Slot), lv_has ls 8 [] → W p l e R s m args below meth c H locs 0 0 QQ (F0 m 144 ls [.int y135_0]) := by
          intro y135_0 e_y135_0 ls hl
          have hw := hw y135_0 e_y135_0
          exact hret _ _ _ _ _ _ hw hR hS dX2_times_144
        refine lv_if_eq (tgt := 142) hx hb dX2_times_135 (by decide) (fun c_135 => ?_) (fun c_135 => ?_)
        · refine lv_bipush (v := (-3)) hx hb dX2_times_142 (by decide) ?_
          exact hK135 _ (if_pos c_135).symm ls (lv_sub hl [] rfl)
        · refine lv_iconst (v := 1) hx hb dX2_times_138 (by decide) ?_
          refine lv_goto (tgt := 144) hx hb dX2_times_139 (by decide) ?_
          exact hK135 _ (if_neg c_135).symm ls (lv_sub hl [] rfl)
      · have hw := hw.2 c_67
        refine lv_aload_n hx hb dX2_times_70 rfl (lv_at hl 0 rfl) ?_
        refine mg_7 hx hb hts hown hE hR dX2_times_71 ?_
        refine lv_iload hx hb dX2_times_74 (lv_at hl 4 rfl) ?_
        refine lv_lconst (v := 0) hx hb dX2_times_76 (by decide) ?_
        obtain ⟨hi_77, hw⟩ := hw
        refine mst_7 hx hb hE hap hR hS hi_77 dX2_times_77 (fun σ77 e_σ77 H locs hR hS => ?_)
        have hw := hw σ77 e_σ77
        clear e_σ77
        refine lv_iconst (v := 0) hx hb dX2_times_78 (by decide) ?_
        refine lv_istore (lv' := [(7, .int 0), (0, .ref o), (1, .int x1), (2, .int x2), (3, .int x3), (6, .int x6)]) hx hb dX2_times_79 hl (by decide) rfl (fun ls hl => ?_)
        obtain ⟨n81, hw⟩ := hw
        exact hL81 x6 n81 σ77 (0 : Int32) hw H locs ls hR hS (lv_sub hl [1, 2, 3, 4, 5, 0] rfl)
  have hJ60 : ∀ (σ : mS) (x1 : Int32) (x2 : Int32) (x3 : Int32), wM_times_j60  Q σ x1 x2 x3 → ∀ (H : Heap) (locs : List Loc) (ls : Array Slot), mR G o ρ σ H → va_S (mA o ρ) s.heap H locs → lv_has ls 8 [(0, .ref o), (1, .int x1), (2, .int x2), (3, .int x3)] → W p l e R s m args below meth c H locs 0 0 QQ (F0 m 60 ls []) := by
    intro σ x1 x2 x3 hw H locs ls hR hS hl
    unfold wM_times_j60 at hw
    refine lv_iconst (v := 0) hx hb dX2_times_60 (by decide) ?_
    refine lv_istore (lv' := [(6, .int 0), (0, .ref o), (1, .int x1), (2, .int x2), (3, .int x3)]) hx hb dX2_times_61 hl (by decide) rfl (fun ls hl => ?_)
    obtain ⟨n63, hw⟩ := hw
    exact hL63 x1 x2 x3 n63 σ (0 : Int32) hw H locs ls hR hS (lv_sub hl [1, 2, 3, 4, 0] rfl)
  intro H ls hR hS hl
  have hl : lv_has ls 8 [(0, .ref o), (1, .int x1), (2, .int x2), (3, .int x3)] := hl
  generalize ([] : List Loc) = locs at hS ⊢
  unfold wM_times at hw
  refine lv_iload_n hx hb dX2_times_0 rfl (lv_at hl 1 rfl) ?_
  refine mc_si (As := [.int x1]) (rest := []) X (mM_isSlot l x1 _ hw) (lw_S q2209 q2210 q_ini2 q2211) hd2_isSlot (mm_le hRf rfl) (mm_le hRl rfl) rfl rfl (Nat.le_of_ble_eq_true rfl) dX2_times_1 hR hS hl.1 (fun r1 H locs hw hR hS => ?_)
  refine lv_if_eq (tgt := 21) hx hb dX2_times_4 (by decide) (fun c_4 => ?_) (fun c_4 => ?_)
  · have hw := hw.1 c_4
    refine lv_iconst (v := (-1)) hx hb dX2_times_21 (by decide) ?_
    exact hret _ _ _ _ _ _ hw hR hS dX2_times_22
  · have hw := hw.2 c_4
    refine lv_iload_n hx hb dX2_times_7 rfl (lv_at hl 2 rfl) ?_
    refine mc_si (As := [.int x2]) (rest := []) X (mM_isSlot l x2 _ hw) (lw_S q2209 q2210 q_ini2 q2211) hd2_isSlot (mm_le hRf rfl) (mm_le hRl rfl) rfl rfl (Nat.le_of_ble_eq_true rfl) dX2_times_8 hR hS hl.1 (fun r8 H locs hw hR hS => ?_)
    refine lv_if_eq (tgt := 21) hx hb dX2_times_11 (by decide) (fun c_11 => ?_) (fun c_11 => ?_)
    · have hw := hw.1 c_11
      refine lv_iconst (v := (-1)) hx hb dX2_times_21 (by decide) ?_
      exact hret _ _ _ _ _ _ hw hR hS dX2_times_22
    · have hw := hw.2 c_11
      refine lv_iload_n hx hb dX2_times_14 rfl (lv_at hl 3 rfl) ?_
      refine mc_si (As := [.int x3]) (rest := []) X (mM_isSlot l x3 _ hw) (lw_S q2209 q2210 q_ini2 q2211) hd2_isSlot (mm_le hRf rfl) (mm_le hRl rfl) rfl rfl (Nat.le_of_ble_eq_true rfl) dX2_times_15 hR hS hl.1 (fun r15 H locs hw hR hS => ?_)
      refine lv_if_ne (tgt := 23) hx hb dX2_times_18 (by decide) (fun c_18 => ?_) (fun c_18 => ?_)
      · have hw := hw.2 c_18
        refine lv_aload_n hx hb dX2_times_23 rfl (lv_at hl 0 rfl) ?_
        refine lv_iload_n hx hb dX2_times_24 rfl (lv_at hl 1 rfl) ?_
        refine mc_vir (As := [.int x1]) (rest := []) X (mM_degreeOf l G o ρ hap σ x1 _ hw) (lw_V q2249 q2251 qs53 q_ini2 q2252) hd2_degreeOf (mm_le hRf rfl) (mm_le hRl rfl) rfl rfl (Nat.le_of_ble_eq_true rfl) dX2_times_25 hR hS hl.1 (fun r25 H locs hw hR hS => ?_)
        refine lv_istore (lv' := [(4, .int r25), (0, .ref o), (1, .int x1), (2, .int x2), (3, .int x3)]) hx hb dX2_times_28 hl (by decide) rfl (fun ls hl => ?_)
        refine lv_aload_n hx hb dX2_times_30 rfl (lv_at hl 1 rfl) ?_
        refine lv_iload_n hx hb dX2_times_31 rfl (lv_at hl 3 rfl) ?_
        refine mc_vir (As := [.int x2]) (rest := []) X (mM_degreeOf l G o ρ hap σ x2 _ hw) (lw_V q2249 q2251 qs53 q_ini2 q2252) hd2_degreeOf (mm_le hRf rfl) (mm_le hRl rfl) rfl rfl (Nat.le_of_ble_eq_true rfl) dX2_times_32 hR hS hl.1 (fun r32 H locs hw hR hS => ?_)
        refine lv_istore (lv' := [(5, .int r32), (4, .int r25), (0, .ref o), (1, .int x1), (2, .int x2), (3, .int x3)]) hx hb dX2_times_35 hl (by decide) rfl (fun ls hl => ?_)
        refine lv_iload hx hb dX2_times_37 (lv_at hl 1 rfl) ?_
        refine lv_if_lt (tgt := 60) hx hb dX2_times_39 (by decide) (fun c_39 => ?_) (fun c_39 => ?_)
        · have hw := hw.1 c_39
          exact hJ60 σ x1 x2 x3 hw H locs ls hR hS (lv_sub hl [2, 3, 4, 5] rfl)
        · have hw := hw.2 c_39
          refine lv_iload hx hb dX2_times_42 (lv_at hl 0 rfl) ?_
          refine lv_if_lt (tgt := 60) hx hb dX2_times_44 (by decide) (fun c_44 => ?_) (fun c_44 => ?_)
          · have hw := hw.1 c_44
            exact hJ60 σ x1 x2 x3 hw H locs ls hR hS (lv_sub hl [2, 3, 4, 5] rfl)
          · have hw := hw.2 c_44
            refine lv_iload hx hb dX2_times_47 (lv_at hl 1 rfl) ?_
            refine lv_iload hx hb dX2_times_49 (lv_at hl 0 rfl) ?_
            refine lv_iadd hx hb dX2_times_51 ?_
            refine lv_bipush (v := 8) hx hb dX2_times_52 (by decide) ?_
            refine lv_icmp_le (tgt := 60) hx hb dX2_times_54 (by decide) (fun c_54 => ?_) (fun c_54 => ?_)
            · have hw := hw.1 c_54
              exact hJ60 σ x1 x2 x3 hw H locs ls hR hS (lv_sub hl [2, 3, 4, 5] rfl)
            · have hw := hw.2 c_54
              refine lv_bipush (v := (-6)) hx hb dX2_times_57 (by decide) ?_
              exact hret _ _ _ _ _ _ hw hR hS dX2_times_59
      · have hw := hw.1 c_18
        refine lv_iconst (v := (-1)) hx hb dX2_times_21 (by decide) ?_
        exact hret _ _ _ _ _ _ hw hR hS dX2_times_22
def wM_isSafe  (x0 : Int64) (x2 : Int64) (Q : Int32 → Prop) : Prop :=
  ((x2 = (0 : Int64) → Q (1 : Int32)) ∧ (¬ x2 = (0 : Int64) → ((x0 = (0 : Int64) → Q (1 : Int32)) ∧ (¬ x0 = (0 : Int64) → ∀ y18_0 : Int32, y18_0 = (if x0 = ((-9223372036854775808) : Int64) then (if x2 = ((-1) : Int64) then 1 else 0) else 0) → ((y18_0 = 0 → (¬ x2 = 0 ∧ True)) ∧ (¬ y18_0 = 0 → True)) ∧ (∀ y39_0 : Int32, y39_0 = (if y18_0 = 0 then (if ((x0 * x2) / x2) = x0 then 1 else 0) else 0) → (y39_0 = 0 ∨ y39_0 = 1) ∧ Q y39_0)))))
set_option maxHeartbeats 4000000 in
theorem mM_isSafe (l : Launch) (x0 : Int64) (x2 : Int64) (Q : Int32 → Prop) (hw : wM_isSafe x0 x2 Q) : mMetS l yX2_isSafe (ws_ yX2_isSafe cX2_isSafe 5 (some .boolean)) 0 0 [.long x0, .long x2] Q := by
  refine mo_SZ plain2 (Nat.le_of_ble_eq_true rfl) ?_
  intro p e s R m args below meth c QQ X hRf hRl hret
  have X : sCtx p s m args c RX2 cX2_isSafe 5 := X
  obtain ⟨hx, hb, hml, hown, hts⟩ := id X
  intro H ls hS hl
  have hl : lv_has ls 5 [(0, .long x0), (2, .long x2)] := hl
  generalize ([] : List Loc) = locs at hS ⊢
  unfold wM_isSafe at hw
  refine lv_lload_n hx hb dX2_isSafe_0 rfl (lv_at hl 1 rfl) ?_
  refine lv_lconst (v := 0) hx hb dX2_isSafe_1 (by decide) ?_
  refine mm_lceq (p1 := 3) (tgt := 12) hx hb dX2_isSafe_2 rfl dX2_isSafe_3 (by decide) (fun c_2 => ?_) (fun c_2 => ?_)
  · have hw := hw.1 c_2
    refine lv_iconst (v := 1) hx hb dX2_isSafe_12 (by decide) ?_
    exact hret _ _ _ _ _ hw (by decide) hS dX2_isSafe_13
  · have hw := hw.2 c_2
    refine lv_lload_n hx hb dX2_isSafe_6 rfl (lv_at hl 0 rfl) ?_
    refine lv_lconst (v := 0) hx hb dX2_isSafe_7 (by decide) ?_
    refine mm_lcne (p1 := 9) (tgt := 14) hx hb dX2_isSafe_8 rfl dX2_isSafe_9 (by decide) (fun c_8 => ?_) (fun c_8 => ?_)
    · have hw := hw.2 c_8
      refine lv_lload_n hx hb dX2_isSafe_14 rfl (lv_at hl 0 rfl) ?_
      refine lv_ldc2 (v := (-9223372036854775808)) hx hb hown (hts _ q2264) dX2_isSafe_15 ?_
      have hK18 : ∀ (y18_0 : Int32), y18_0 = (if x0 = ((-9223372036854775808) : Int64) then (if x2 = ((-1) : Int64) then 1 else 0) else 0) → ∀ (ls : Array Slot), lv_has ls 5 [(0, .long x0), (2, .long x2)] → W p l e R s m args below meth c H locs 0 0 QQ (F0 m 35 ls [.int y18_0]) := by
        intro y18_0 e_y18_0 ls hl
        have hw := hw y18_0 e_y18_0
        refine lv_istore (lv' := [(4, .int y18_0), (0, .long x0), (2, .long x2)]) hx hb dX2_isSafe_35 hl (by decide) rfl (fun ls hl => ?_)
        refine lv_iload hx hb dX2_isSafe_37 (lv_at hl 0 rfl) ?_
        obtain ⟨hg, hw⟩ := hw
        have hK39 : ∀ (y39_0 : Int32), y39_0 = (if y18_0 = 0 then (if ((x0 * x2) / x2) = x0 then 1 else 0) else 0) → ∀ (ls : Array Slot), lv_has ls 5 [] → W p l e R s m args below meth c H locs 0 0 QQ (F0 m 57 ls [.int y39_0]) := by
          intro y39_0 e_y39_0 ls hl
          have hw := hw y39_0 e_y39_0
          obtain ⟨hz, hw⟩ := hw
          exact hret _ _ _ _ _ hw hz hS dX2_isSafe_57
        refine lv_if_ne (tgt := 56) hx hb dX2_isSafe_39 (by decide) (fun c_39 => ?_) (fun c_39 => ?_)
        · have hg := hg.2 c_39
          refine lv_iconst (v := 0) hx hb dX2_isSafe_56 (by decide) ?_
          exact hK39 _ (if_neg c_39).symm ls (lv_sub hl [] rfl)
        · have hg := hg.1 c_39
          refine lv_lload_n hx hb dX2_isSafe_42 rfl (lv_at hl 1 rfl) ?_
          refine lv_lload_n hx hb dX2_isSafe_43 rfl (lv_at hl 2 rfl) ?_
          refine lv_lmul hx hb dX2_isSafe_44 ?_
          refine lv_lload_n hx hb dX2_isSafe_45 rfl (lv_at hl 2 rfl) ?_
          obtain ⟨hz_46, hg⟩ := hg
          refine lv_ldiv hx hb dX2_isSafe_46 hz_46 ?_
          refine lv_lload_n hx hb dX2_isSafe_47 rfl (lv_at hl 1 rfl) ?_
          refine mm_lcne (p1 := 49) (tgt := 56) hx hb dX2_isSafe_48 rfl dX2_isSafe_49 (by decide) (fun c_48 => ?_) (fun c_48 => ?_)
          · refine lv_iconst (v := 0) hx hb dX2_isSafe_56 (by decide) ?_
            exact hK39 _ ((if_neg c_48).symm.trans (if_pos c_39).symm) ls (lv_sub hl [] rfl)
          · refine lv_iconst (v := 1) hx hb dX2_isSafe_52 (by decide) ?_
            refine lv_goto (tgt := 57) hx hb dX2_isSafe_53 (by decide) ?_
            exact hK39 _ ((if_pos c_48).symm.trans (if_pos c_39).symm) ls (lv_sub hl [] rfl)
      refine mm_lcne (p1 := 19) (tgt := 34) hx hb dX2_isSafe_18 rfl dX2_isSafe_19 (by decide) (fun c_18 => ?_) (fun c_18 => ?_)
      · refine lv_iconst (v := 0) hx hb dX2_isSafe_34 (by decide) ?_
        exact hK18 _ (if_neg c_18).symm ls (lv_sub hl [0, 1] rfl)
      · refine lv_lload_n hx hb dX2_isSafe_22 rfl (lv_at hl 1 rfl) ?_
        refine lv_ldc2 (v := (-1)) hx hb hown (hts _ q2292) dX2_isSafe_23 ?_
        refine mm_lcne (p1 := 27) (tgt := 34) hx hb dX2_isSafe_26 rfl dX2_isSafe_27 (by decide) (fun c_26 => ?_) (fun c_26 => ?_)
        · refine lv_iconst (v := 0) hx hb dX2_isSafe_34 (by decide) ?_
          exact hK18 _ ((if_neg c_26).symm.trans (if_pos c_18).symm) ls (lv_sub hl [0, 1] rfl)
        · refine lv_iconst (v := 1) hx hb dX2_isSafe_30 (by decide) ?_
          refine lv_goto (tgt := 35) hx hb dX2_isSafe_31 (by decide) ?_
          exact hK18 _ ((if_pos c_26).symm.trans (if_pos c_18).symm) ls (lv_sub hl [0, 1] rfl)
    · have hw := hw.1 c_8
      refine lv_iconst (v := 1) hx hb dX2_isSafe_12 (by decide) ?_
      exact hret _ _ _ _ _ hw (by decide) hS dX2_isSafe_13
def wM_worth_j71 (rec17 : Int64 → Int32 → Prop) (Q : Int64 → Prop) (σ : mS) (x1 : Int32) (x2 : Int32) (x3 : Int64) (x5 : Int32) (x6 : Int64) (x8 : Int64)  : Prop :=
  (((0 : Int64) ≤ x8 → rec17 x3 (x5 + (-1))) ∧ (¬ (0 : Int64) ≤ x8 → ((x3 ≤ x6 → rec17 x3 (x5 + (-1))) ∧ (¬ x3 ≤ x6 → Q ((-9223372036854775808) : Int64)))))
def wM_worth_l17  (Q : Int64 → Prop) (σ : mS) (x1 : Int32) (x2 : Int32) : Nat → Int64 → Int32 → Prop
  | 0, _, _ => False
  | n + 1, x3, x5 => ((x5 < 0 → Q x3) ∧ (¬ x5 < 0 → wM_isSafe x3 (x2).toInt64 (fun r25 => ((r25 = 0 → Q ((-9223372036854775808) : Int64)) ∧ (¬ r25 = 0 → wM_coefficient σ x1 x5 (fun r45 => (((r45).toInt64 ≤ (0 : Int64) → (wM_worth_j71 (fun z3 z5 => wM_worth_l17  Q σ x1 x2 n z3 z5) Q σ x1 x2 ((x3 * (x2).toInt64) + (r45).toInt64) x5 (x3 * (x2).toInt64) (r45).toInt64)) ∧ (¬ (r45).toInt64 ≤ (0 : Int64) → ((((x3 * (x2).toInt64) + (r45).toInt64) < (x3 * (x2).toInt64) → Q ((-9223372036854775808) : Int64)) ∧ (¬ ((x3 * (x2).toInt64) + (r45).toInt64) < (x3 * (x2).toInt64) → (wM_worth_j71 (fun z3 z5 => wM_worth_l17  Q σ x1 x2 n z3 z5) Q σ x1 x2 ((x3 * (x2).toInt64) + (r45).toInt64) x5 (x3 * (x2).toInt64) (r45).toInt64)))))))))))
def wM_worth (σ : mS) (x1 : Int32) (x2 : Int32) (Q : Int64 → Prop) : Prop :=
  wM_isSlot x1 (fun r1 => ((r1 = 0 → Q ((-9223372036854775808) : Int64)) ∧ (¬ r1 = 0 → (∃ k17 : Nat, wM_worth_l17  Q σ x1 x2 k17 (0 : Int64) (8 : Int32)))))
set_option maxHeartbeats 4000000 in
theorem mM_worth (l : Launch) (G : mG) (o : Nat) (ρ : Nat → Nat) (hap : mAp o ρ) (σ : mS) (x1 : Int32) (x2 : Int32) (Q : Int64 → Prop) (hw : wM_worth σ x1 x2 Q) : mMetL l G yX2_worth (ws_ yX2_worth cX2_worth 10 (some .long)) 1 24 o ρ [.ref o, .int x1, .int x2] σ (fun r τ => σ = τ ∧ Q r) := by
  refine mo_L plain2 rfl (Nat.le_of_ble_eq_true rfl) ?_
  intro p e s R m args below meth c QQ X hRf hRl hret
  obtain ⟨hx, hb, hml, hown, hts, hE⟩ := id X
  have hL17 : ∀ (x1 : Int32) (x2 : Int32) (n17 : Nat) (x3 : Int64) (x5 : Int32), wM_worth_l17  Q σ x1 x2 n17 x3 x5 → ∀ (H : Heap) (locs : List Loc) (ls : Array Slot), mR G o ρ σ H → va_S (mA o ρ) s.heap H locs → lv_has ls 10 [(0, .ref o), (1, .int x1), (2, .int x2), (3, .long x3), (5, .int x5)] → W p l e R s m args below meth c H locs 0 0 QQ (F0 m 17 ls []) := by
    intro x1 x2 n17
    induction n17 with
    | zero => intro x3 x5 hw; exact hw.elim
    | succ n17 ih17 =>
      have hJ71 : ∀ (x3 : Int64) (x5 : Int32) (x6 : Int64) (x8 : Int64), wM_worth_j71 (wM_worth_l17  Q σ x1 x2 n17) Q σ x1 x2 x3 x5 x6 x8 → ∀ (H : Heap) (locs : List Loc) (ls : Array Slot), mR G o ρ σ H → va_S (mA o ρ) s.heap H locs → lv_has ls 10 [(0, .ref o), (1, .int x1), (2, .int x2), (3, .long x3), (5, .int x5), (6, .long x6), (8, .long x8)] → W p l e R s m args below meth c H locs 0 0 QQ (F0 m 71 ls []) := by
        intro x3 x5 x6 x8 hw H locs ls hR hS hl
        unfold wM_worth_j71 at hw
        refine lv_lload hx hb dX2_worth_71 (lv_at hl 6 rfl) ?_
        refine lv_lconst (v := 0) hx hb dX2_worth_73 (by decide) ?_
        refine mm_lcge (p1 := 75) (tgt := 89) hx hb dX2_worth_74 rfl dX2_worth_75 (by decide) (fun c_74 => ?_) (fun c_74 => ?_)
        · have hw := hw.1 c_74
          refine lv_iinc (k := 4) (lv' := [(5, .int (x5 + (-1))), (0, .ref o), (1, .int x1), (2, .int x2), (3, .long x3), (6, .long x6), (8, .long x8)]) hx hb dX2_worth_89 hl rfl (congrArg (x5 + ·) (by decide : Int32.ofInt (-1) = (-1))) (by decide) rfl (fun ls hl => ?_)
          refine lv_goto (tgt := 17) hx hb dX2_worth_92 (by decide) ?_
          exact ih17 x3 (x5 + (-1)) hw H locs ls hR hS (lv_sub hl [1, 2, 3, 4, 0] rfl)
        · have hw := hw.2 c_74
          refine lv_lload_n hx hb dX2_worth_78 rfl (lv_at hl 3 rfl) ?_
          refine lv_lload hx hb dX2_worth_79 (lv_at hl 5 rfl) ?_
          refine mm_lcle (p1 := 82) (tgt := 89) hx hb dX2_worth_81 rfl dX2_worth_82 (by decide) (fun c_81 => ?_) (fun c_81 => ?_)
          · have hw := hw.1 c_81
            refine lv_iinc (k := 4) (lv' := [(5, .int (x5 + (-1))), (0, .ref o), (1, .int x1), (2, .int x2), (3, .long x3), (6, .long x6), (8, .long x8)]) hx hb dX2_worth_89 hl rfl (congrArg (x5 + ·) (by decide : Int32.ofInt (-1) = (-1))) (by decide) rfl (fun ls hl => ?_)
            refine lv_goto (tgt := 17) hx hb dX2_worth_92 (by decide) ?_
            exact ih17 x3 (x5 + (-1)) hw H locs ls hR hS (lv_sub hl [1, 2, 3, 4, 0] rfl)
          · have hw := hw.2 c_81
            refine lv_ldc2 (v := (-9223372036854775808)) hx hb hown (hts _ q2264) dX2_worth_85 ?_
            exact hret _ _ _ _ _ _ ⟨rfl, hw⟩ hR hS dX2_worth_88
      intro x3 x5 hw H locs ls hR hS hl
      rw [wM_worth_l17] at hw
      refine lv_iload hx hb dX2_worth_17 (lv_at hl 4 rfl) ?_
      refine lv_if_lt (tgt := 95) hx hb dX2_worth_19 (by decide) (fun c_19 => ?_) (fun c_19 => ?_)
      · have hw := hw.1 c_19
        refine lv_lload_n hx hb dX2_worth_95 rfl (lv_at hl 3 rfl) ?_
        exact hret _ _ _ _ _ _ ⟨rfl, hw⟩ hR hS dX2_worth_96
      · have hw := hw.2 c_19
        refine lv_lload_n hx hb dX2_worth_22 rfl (lv_at hl 3 rfl) ?_
        refine lv_iload_n hx hb dX2_worth_23 rfl (lv_at hl 2 rfl) ?_
        refine lv_i2l hx hb dX2_worth_24 rfl ?_
        refine mc_si (As := [.long x3, .long (x2).toInt64]) (rest := []) X (mM_isSafe l x3 (x2).toInt64 _ hw) (lw_S q2289 q2290 q_ini2 q2291) hd2_isSafe (mm_le hRf rfl) (mm_le hRl rfl) rfl rfl (Nat.le_of_ble_eq_true rfl) dX2_worth_25 hR hS hl.1 (fun r25 H locs hw hR hS => ?_)
        refine lv_if_ne (tgt := 35) hx hb dX2_worth_28 (by decide) (fun c_28 => ?_) (fun c_28 => ?_)
        · have hw := hw.2 c_28
          refine lv_lload_n hx hb dX2_worth_35 rfl (lv_at hl 3 rfl) ?_
          refine lv_iload_n hx hb dX2_worth_36 rfl (lv_at hl 2 rfl) ?_
          refine lv_i2l hx hb dX2_worth_37 rfl ?_
          refine lv_lmul hx hb dX2_worth_38 ?_
          refine lv_lstore (lv' := [(6, .long (x3 * (x2).toInt64)), (0, .ref o), (1, .int x1), (2, .int x2), (3, .long x3), (5, .int x5)]) hx hb dX2_worth_39 hl (by decide) rfl (fun ls hl => ?_)
          refine lv_aload_n hx hb dX2_worth_41 rfl (lv_at hl 1 rfl) ?_
          refine lv_iload_n hx hb dX2_worth_42 rfl (lv_at hl 2 rfl) ?_
          refine lv_iload hx hb dX2_worth_43 (lv_at hl 5 rfl) ?_
          refine mc_vir (As := [.int x1, .int x5]) (rest := []) X (mM_coefficient l G o ρ hap σ x1 x5 _ hw) (lw_V q2253 q2255 qs54 q_ini2 q2256) hd2_coefficient (mm_le hRf rfl) (mm_le hRl rfl) rfl rfl (Nat.le_of_ble_eq_true rfl) dX2_worth_45 hR hS hl.1 (fun r45 H locs hw hR hS => ?_)
          refine lv_i2l hx hb dX2_worth_48 rfl ?_
          refine lv_lstore (lv' := [(8, .long (r45).toInt64), (6, .long (x3 * (x2).toInt64)), (0, .ref o), (1, .int x1), (2, .int x2), (3, .long x3), (5, .int x5)]) hx hb dX2_worth_49 hl (by decide) rfl (fun ls hl => ?_)
          refine lv_lload hx hb dX2_worth_51 (lv_at hl 1 rfl) ?_
          refine lv_lload hx hb dX2_worth_53 (lv_at hl 0 rfl) ?_
          refine lv_ladd hx hb dX2_worth_55 ?_
          refine lv_lstore_n (lv' := [(3, .long ((x3 * (x2).toInt64) + (r45).toInt64)), (8, .long (r45).toInt64), (6, .long (x3 * (x2).toInt64)), (0, .ref o), (1, .int x1), (2, .int x2), (5, .int x5)]) hx hb dX2_worth_56 rfl hl (by decide) rfl (fun ls hl => ?_)
          refine lv_lload hx hb dX2_worth_57 (lv_at hl 1 rfl) ?_
          refine lv_lconst (v := 0) hx hb dX2_worth_59 (by decide) ?_
          refine mm_lcle (p1 := 61) (tgt := 71) hx hb dX2_worth_60 rfl dX2_worth_61 (by decide) (fun c_60 => ?_) (fun c_60 => ?_)
          · have hw := hw.1 c_60
            exact hJ71 ((x3 * (x2).toInt64) + (r45).toInt64) x5 (x3 * (x2).toInt64) (r45).toInt64 hw H locs ls hR hS (lv_sub hl [3, 4, 5, 0, 6, 2, 1] rfl)
          · have hw := hw.2 c_60
            refine lv_lload_n hx hb dX2_worth_64 rfl (lv_at hl 0 rfl) ?_
            refine lv_lload hx hb dX2_worth_65 (lv_at hl 2 rfl) ?_
            refine mm_lclt (p1 := 68) (tgt := 85) hx hb dX2_worth_67 rfl dX2_worth_68 (by decide) (fun c_67 => ?_) (fun c_67 => ?_)
            · have hw := hw.1 c_67
              refine lv_ldc2 (v := (-9223372036854775808)) hx hb hown (hts _ q2264) dX2_worth_85 ?_
              exact hret _ _ _ _ _ _ ⟨rfl, hw⟩ hR hS dX2_worth_88
            · have hw := hw.2 c_67
              exact hJ71 ((x3 * (x2).toInt64) + (r45).toInt64) x5 (x3 * (x2).toInt64) (r45).toInt64 hw H locs ls hR hS (lv_sub hl [3, 4, 5, 0, 6, 2, 1] rfl)
        · have hw := hw.1 c_28
          refine lv_ldc2 (v := (-9223372036854775808)) hx hb hown (hts _ q2264) dX2_worth_31 ?_
          exact hret _ _ _ _ _ _ ⟨rfl, hw⟩ hR hS dX2_worth_34
  intro H ls hR hS hl
  have hl : lv_has ls 10 [(0, .ref o), (1, .int x1), (2, .int x2)] := hl
  generalize ([] : List Loc) = locs at hS ⊢
  unfold wM_worth at hw
  refine lv_iload_n hx hb dX2_worth_0 rfl (lv_at hl 1 rfl) ?_
  refine mc_si (As := [.int x1]) (rest := []) X (mM_isSlot l x1 _ hw) (lw_S q2209 q2210 q_ini2 q2211) hd2_isSlot (mm_le hRf rfl) (mm_le hRl rfl) rfl rfl (Nat.le_of_ble_eq_true rfl) dX2_worth_1 hR hS hl.1 (fun r1 H locs hw hR hS => ?_)
  refine lv_if_ne (tgt := 11) hx hb dX2_worth_4 (by decide) (fun c_4 => ?_) (fun c_4 => ?_)
  · have hw := hw.2 c_4
    refine lv_lconst (v := 0) hx hb dX2_worth_11 (by decide) ?_
    refine lv_lstore_n (lv' := [(3, .long 0), (0, .ref o), (1, .int x1), (2, .int x2)]) hx hb dX2_worth_12 rfl hl (by decide) rfl (fun ls hl => ?_)
    refine lv_bipush (v := 8) hx hb dX2_worth_13 (by decide) ?_
    refine lv_istore (lv' := [(5, .int 8), (3, .long 0), (0, .ref o), (1, .int x1), (2, .int x2)]) hx hb dX2_worth_15 hl (by decide) rfl (fun ls hl => ?_)
    obtain ⟨n17, hw⟩ := hw
    exact hL17 x1 x2 n17 (0 : Int64) (8 : Int32) hw H locs ls hR hS (lv_sub hl [2, 3, 4, 1, 0] rfl)
  · have hw := hw.1 c_4
    refine lv_ldc2 (v := (-9223372036854775808)) hx hb hown (hts _ q2264) dX2_worth_7 ?_
    exact hret _ _ _ _ _ _ ⟨rfl, hw⟩ hR hS dX2_worth_10
def wM_number (σ : mS) (x1 : Int64) (Q : Int64 → Prop) : Prop :=
  ¬ (mgw σ) = 0 ∧ (∀ y9_0 : Int64, y9_0 = (if (0 : Int64) ≤ (x1 - x1 / (mgw σ) * (mgw σ)) then (x1 - x1 / (mgw σ) * (mgw σ)) else ((x1 - x1 / (mgw σ) * (mgw σ)) + (mgw σ))) → Q y9_0)
set_option maxHeartbeats 4000000 in
theorem mM_number (l : Launch) (G : mG) (o : Nat) (ρ : Nat → Nat) (hap : mAp o ρ) (σ : mS) (x1 : Int64) (Q : Int64 → Prop) (hw : wM_number σ x1 Q) : mMetL l G yX2_number (ws_ yX2_number cX2_number 5 (some .long)) 0 0 o ρ [.ref o, .long x1] σ (fun r τ => σ = τ ∧ Q r) := by
  refine mo_L plain2 rfl (Nat.le_of_ble_eq_true rfl) ?_
  intro p e s R m args below meth c QQ X hRf hRl hret
  obtain ⟨hx, hb, hml, hown, hts, hE⟩ := id X
  intro H ls hR hS hl
  have hl : lv_has ls 5 [(0, .ref o), (1, .long x1)] := hl
  generalize ([] : List Loc) = locs at hS ⊢
  unfold wM_number at hw
  refine lv_lload_n hx hb dX2_number_0 rfl (lv_at hl 1 rfl) ?_
  refine lv_aload_n hx hb dX2_number_1 rfl (lv_at hl 0 rfl) ?_
  refine mg_2 hx hb hts hown hE hR dX2_number_2 ?_
  obtain ⟨hz_5, hw⟩ := hw
  refine lv_lrem hx hb dX2_number_5 hz_5 ?_
  refine lv_lstore_n (lv' := [(3, .long (x1 - x1 / (mgw σ) * (mgw σ))), (0, .ref o), (1, .long x1)]) hx hb dX2_number_6 rfl hl (by decide) rfl (fun ls hl => ?_)
  refine lv_lload_n hx hb dX2_number_7 rfl (lv_at hl 0 rfl) ?_
  refine lv_lconst (v := 0) hx hb dX2_number_8 (by decide) ?_
  have hK9 : ∀ (y9_0 : Int64), y9_0 = (if (0 : Int64) ≤ (x1 - x1 / (mgw σ) * (mgw σ)) then (x1 - x1 / (mgw σ) * (mgw σ)) else ((x1 - x1 / (mgw σ) * (mgw σ)) + (mgw σ))) → ∀ (ls : Array Slot), lv_has ls 5 [] → W p l e R s m args below meth c H locs 0 0 QQ (F0 m 23 ls [.long y9_0]) := by
    intro y9_0 e_y9_0 ls hl
    have hw := hw y9_0 e_y9_0
    exact hret _ _ _ _ _ _ ⟨rfl, hw⟩ hR hS dX2_number_23
  refine mm_lcge (p1 := 10) (tgt := 22) hx hb dX2_number_9 rfl dX2_number_10 (by decide) (fun c_9 => ?_) (fun c_9 => ?_)
  · refine lv_lload_n hx hb dX2_number_22 rfl (lv_at hl 0 rfl) ?_
    exact hK9 _ (if_pos c_9).symm ls (lv_sub hl [] rfl)
  · refine lv_lload_n hx hb dX2_number_13 rfl (lv_at hl 0 rfl) ?_
    refine lv_aload_n hx hb dX2_number_14 rfl (lv_at hl 1 rfl) ?_
    refine mg_2 hx hb hts hown hE hR dX2_number_15 ?_
    refine lv_ladd hx hb dX2_number_18 ?_
    refine lv_goto (tgt := 23) hx hb dX2_number_19 (by decide) ?_
    exact hK9 _ (if_neg c_9).symm ls (lv_sub hl [] rfl)
def wM_splits_l34 (rec21 : mS → Int32 → Prop) (rec3 : mS → Int32 → Prop) (Q : mS → Prop)  (x1 : Int32) (x2 : Int32) (x3 : Int32) (x4 : Int32) (x5 : Int32) (x6 : Int32) : Nat → mS → Int32 → Prop
  | 0, _, _ => False
  | n + 1, σ, x7 => ((x4 ≤ x7 → rec21 σ (x6 + (-1))) ∧ (¬ x4 ≤ x7 → vp_in ((x6 - x4) + x7) 24 ∧ (vp_in x6 24 ∧ (vp_in (x3 + x7) 369 ∧ (wM_number σ ((mgl σ 8 ((x6 - x4) + x7).toNatClampNeg) - ((mgl σ 8 x6.toNatClampNeg) * (mgl σ 9 (x3 + x7).toNatClampNeg))) (fun r85 => vp_in ((x6 - x4) + x7) 24 ∧ (∀ σ88 : mS, σ88 = mpl σ 8 ((x6 - x4) + x7).toNatClampNeg r85 → wM_splits_l34 rec21 rec3 Q  x1 x2 x3 x4 x5 x6 n σ88 (x7 + 1))))))))
def wM_splits_l21 (rec3 : mS → Int32 → Prop) (Q : mS → Prop)  (x1 : Int32) (x2 : Int32) (x3 : Int32) (x4 : Int32) (x5 : Int32) : Nat → mS → Int32 → Prop
  | 0, _, _ => False
  | n + 1, σ, x6 => ((x6 < (x5 + x4) → rec3 σ (x5 + x4)) ∧ (¬ x6 < (x5 + x4) → (∃ k34 : Nat, wM_splits_l34 (fun z z6 => wM_splits_l21 rec3 Q  x1 x2 x3 x4 x5 n z z6) rec3 Q  x1 x2 x3 x4 x5 x6 k34 σ (0 : Int32))))
def wM_splits_l3  (Q : mS → Prop)  (x1 : Int32) (x2 : Int32) (x3 : Int32) (x4 : Int32) : Nat → mS → Int32 → Prop
  | 0, _, _ => False
  | n + 1, σ, x5 => (((x1 + x2) ≤ (x5 + x4) → Q σ) ∧ (¬ (x1 + x2) ≤ (x5 + x4) → (∃ k21 : Nat, wM_splits_l21 (fun z z5 => wM_splits_l3  Q  x1 x2 x3 x4 n z z5) Q  x1 x2 x3 x4 x5 k21 σ ((x1 + x2) - 1))))
def wM_splits (σ : mS) (x1 : Int32) (x2 : Int32) (x3 : Int32) (x4 : Int32) (Q : mS → Prop) : Prop :=
  (∃ k3 : Nat, wM_splits_l3  Q  x1 x2 x3 x4 k3 σ x1)
set_option maxHeartbeats 4000000 in
theorem mM_splits (l : Launch) (G : mG) (o : Nat) (ρ : Nat → Nat) (hap : mAp o ρ) (σ : mS) (x1 : Int32) (x2 : Int32) (x3 : Int32) (x4 : Int32) (Q : mS → Prop) (hw : wM_splits σ x1 x2 x3 x4 Q) : mMetV l G yX2_splits (ws_ yX2_splits cX2_splits 8 none) 1 24 o ρ [.ref o, .int x1, .int x2, .int x3, .int x4] σ Q := by
  refine mo_V plain2 rfl (Nat.le_of_ble_eq_true rfl) ?_
  intro p e s R m args below meth c QQ X hRf hRl hret
  obtain ⟨hx, hb, hml, hown, hts, hE⟩ := id X
  have hL3 : ∀ (x1 : Int32) (x2 : Int32) (x3 : Int32) (x4 : Int32) (n3 : Nat) (σ : mS) (x5 : Int32), wM_splits_l3  Q  x1 x2 x3 x4 n3 σ x5 → ∀ (H : Heap) (locs : List Loc) (ls : Array Slot), mR G o ρ σ H → va_S (mA o ρ) s.heap H locs → lv_has ls 8 [(0, .ref o), (1, .int x1), (2, .int x2), (3, .int x3), (4, .int x4), (5, .int x5)] → W p l e R s m args below meth c H locs 0 0 QQ (F0 m 3 ls []) := by
    intro x1 x2 x3 x4 n3
    induction n3 with
    | zero => intro σ x5 hw; exact hw.elim
    | succ n3 ih3 =>
      have hL21 : ∀ (x5 : Int32) (n21 : Nat) (σ : mS) (x6 : Int32), wM_splits_l21 (wM_splits_l3  Q  x1 x2 x3 x4 n3) Q  x1 x2 x3 x4 x5 n21 σ x6 → ∀ (H : Heap) (locs : List Loc) (ls : Array Slot), mR G o ρ σ H → va_S (mA o ρ) s.heap H locs → lv_has ls 8 [(0, .ref o), (1, .int x1), (2, .int x2), (3, .int x3), (4, .int x4), (5, .int x5), (6, .int x6)] → W p l e R s m args below meth c H locs 0 0 QQ (F0 m 21 ls []) := by
        intro x5 n21
        induction n21 with
        | zero => intro σ x6 hw; exact hw.elim
        | succ n21 ih21 =>
          have hL34 : ∀ (x6 : Int32) (n34 : Nat) (σ : mS) (x7 : Int32), wM_splits_l34 (wM_splits_l21 (wM_splits_l3  Q  x1 x2 x3 x4 n3) Q  x1 x2 x3 x4 x5 n21) (wM_splits_l3  Q  x1 x2 x3 x4 n3) Q  x1 x2 x3 x4 x5 x6 n34 σ x7 → ∀ (H : Heap) (locs : List Loc) (ls : Array Slot), mR G o ρ σ H → va_S (mA o ρ) s.heap H locs → lv_has ls 8 [(0, .ref o), (1, .int x1), (2, .int x2), (3, .int x3), (4, .int x4), (5, .int x5), (6, .int x6), (7, .int x7)] → W p l e R s m args below meth c H locs 0 0 QQ (F0 m 34 ls []) := by
            intro x6 n34
            induction n34 with
            | zero => intro σ x7 hw; exact hw.elim
            | succ n34 ih34 =>
              intro σ x7 hw H locs ls hR hS hl
              rw [wM_splits_l34] at hw
              refine lv_iload hx hb dX2_splits_34 (lv_at hl 7 rfl) ?_
              refine lv_iload hx hb dX2_splits_36 (lv_at hl 4 rfl) ?_
              refine lv_icmp_ge (tgt := 95) hx hb dX2_splits_38 (by decide) (fun c_38 => ?_) (fun c_38 => ?_)
              · have hw := hw.1 c_38
                refine lv_iinc (k := 6) (lv' := [(6, .int (x6 + (-1))), (0, .ref o), (1, .int x1), (2, .int x2), (3, .int x3), (4, .int x4), (5, .int x5), (7, .int x7)]) hx hb dX2_splits_95 hl rfl (congrArg (x6 + ·) (by decide : Int32.ofInt (-1) = (-1))) (by decide) rfl (fun ls hl => ?_)
                refine lv_goto (tgt := 21) hx hb dX2_splits_98 (by decide) ?_
                exact ih21 σ (x6 + (-1)) hw H locs ls hR hS (lv_sub hl [1, 2, 3, 4, 5, 6, 0] rfl)
              · have hw := hw.2 c_38
                refine lv_aload_n hx hb dX2_splits_41 rfl (lv_at hl 0 rfl) ?_
                refine mg_8 hx hb hts hown hE hR dX2_splits_42 ?_
                refine lv_iload hx hb dX2_splits_45 (lv_at hl 6 rfl) ?_
                refine lv_iload hx hb dX2_splits_47 (lv_at hl 4 rfl) ?_
                refine lv_isub hx hb dX2_splits_49 ?_
                refine lv_iload hx hb dX2_splits_50 (lv_at hl 7 rfl) ?_
                refine lv_iadd hx hb dX2_splits_52 ?_
                refine lv_aload_n hx hb dX2_splits_53 rfl (lv_at hl 0 rfl) ?_
                refine lv_aload_n hx hb dX2_splits_54 rfl (lv_at hl 0 rfl) ?_
                refine mg_8 hx hb hts hown hE hR dX2_splits_55 ?_
                refine lv_iload hx hb dX2_splits_58 (lv_at hl 6 rfl) ?_
                refine lv_iload hx hb dX2_splits_60 (lv_at hl 4 rfl) ?_
                refine lv_isub hx hb dX2_splits_62 ?_
                refine lv_iload hx hb dX2_splits_63 (lv_at hl 7 rfl) ?_
                refine lv_iadd hx hb dX2_splits_65 ?_
                obtain ⟨hi_66, hw⟩ := hw
                refine ma_8 hx hb hE hR hi_66 dX2_splits_66 ?_
                refine lv_aload_n hx hb dX2_splits_67 rfl (lv_at hl 0 rfl) ?_
                refine mg_8 hx hb hts hown hE hR dX2_splits_68 ?_
                refine lv_iload hx hb dX2_splits_71 (lv_at hl 6 rfl) ?_
                obtain ⟨hi_73, hw⟩ := hw
                refine ma_8 hx hb hE hR hi_73 dX2_splits_73 ?_
                refine lv_aload_n hx hb dX2_splits_74 rfl (lv_at hl 0 rfl) ?_
                refine mg_9 hx hb hts hown hE hR dX2_splits_75 ?_
                refine lv_iload_n hx hb dX2_splits_78 rfl (lv_at hl 3 rfl) ?_
                refine lv_iload hx hb dX2_splits_79 (lv_at hl 7 rfl) ?_
                refine lv_iadd hx hb dX2_splits_81 ?_
                obtain ⟨hi_82, hw⟩ := hw
                refine ma_9 hx hb hE hR hi_82 dX2_splits_82 ?_
                refine lv_lmul hx hb dX2_splits_83 ?_
                refine lv_lsub hx hb dX2_splits_84 ?_
                refine mc_vlr (As := [.long ((mgl σ 8 ((x6 - x4) + x7).toNatClampNeg) - ((mgl σ 8 x6.toNatClampNeg) * (mgl σ 9 (x3 + x7).toNatClampNeg)))]) (rest := [.int ((x6 - x4) + x7), .ref (ρ 8)]) X (mM_number l G o ρ hap σ ((mgl σ 8 ((x6 - x4) + x7).toNatClampNeg) - ((mgl σ 8 x6.toNatClampNeg) * (mgl σ 9 (x3 + x7).toNatClampNeg))) _ hw) (lw_V q2297 q2299 qs56 q_ini2 q2300) hd2_number (mm_le hRf rfl) (mm_le hRl rfl) rfl rfl (Nat.le_of_ble_eq_true rfl) dX2_splits_85 hR hS hl.1 (fun r85 H locs hw hR hS => ?_)
                obtain ⟨hi_88, hw⟩ := hw
                refine mst_8 hx hb hE hap hR hS hi_88 dX2_splits_88 (fun σ88 e_σ88 H locs hR hS => ?_)
                have hw := hw σ88 e_σ88
                clear e_σ88
                refine lv_iinc (k := 7) (lv' := [(7, .int (x7 + 1)), (0, .ref o), (1, .int x1), (2, .int x2), (3, .int x3), (4, .int x4), (5, .int x5), (6, .int x6)]) hx hb dX2_splits_89 hl rfl (congrArg (x7 + ·) (by decide : Int32.ofInt 1 = 1)) (by decide) rfl (fun ls hl => ?_)
                refine lv_goto (tgt := 34) hx hb dX2_splits_92 (by decide) ?_
                exact ih34 σ88 (x7 + 1) hw H locs ls hR hS (lv_sub hl [1, 2, 3, 4, 5, 6, 7, 0] rfl)
          intro σ x6 hw H locs ls hR hS hl
          rw [wM_splits_l21] at hw
          refine lv_iload hx hb dX2_splits_21 (lv_at hl 6 rfl) ?_
          refine lv_iload hx hb dX2_splits_23 (lv_at hl 5 rfl) ?_
          refine lv_iload hx hb dX2_splits_25 (lv_at hl 4 rfl) ?_
          refine lv_iadd hx hb dX2_splits_27 ?_
          refine lv_icmp_lt (tgt := 101) hx hb dX2_splits_28 (by decide) (fun c_28 => ?_) (fun c_28 => ?_)
          · have hw := hw.1 c_28
            refine lv_iload hx hb dX2_splits_101 (lv_at hl 5 rfl) ?_
            refine lv_iload hx hb dX2_splits_103 (lv_at hl 4 rfl) ?_
            refine lv_iadd hx hb dX2_splits_105 ?_
            refine lv_istore (lv' := [(5, .int (x5 + x4)), (0, .ref o), (1, .int x1), (2, .int x2), (3, .int x3), (4, .int x4), (6, .int x6)]) hx hb dX2_splits_106 hl (by decide) rfl (fun ls hl => ?_)
            refine lv_goto (tgt := 3) hx hb dX2_splits_108 (by decide) ?_
            exact ih3 σ (x5 + x4) hw H locs ls hR hS (lv_sub hl [1, 2, 3, 4, 5, 0] rfl)
          · have hw := hw.2 c_28
            refine lv_iconst (v := 0) hx hb dX2_splits_31 (by decide) ?_
            refine lv_istore (lv' := [(7, .int 0), (0, .ref o), (1, .int x1), (2, .int x2), (3, .int x3), (4, .int x4), (5, .int x5), (6, .int x6)]) hx hb dX2_splits_32 hl (by decide) rfl (fun ls hl => ?_)
            obtain ⟨n34, hw⟩ := hw
            exact hL34 x6 n34 σ (0 : Int32) hw H locs ls hR hS (lv_sub hl [1, 2, 3, 4, 5, 6, 7, 0] rfl)
      intro σ x5 hw H locs ls hR hS hl
      rw [wM_splits_l3] at hw
      refine lv_iload hx hb dX2_splits_3 (lv_at hl 5 rfl) ?_
      refine lv_iload hx hb dX2_splits_5 (lv_at hl 4 rfl) ?_
      refine lv_iadd hx hb dX2_splits_7 ?_
      refine lv_iload_n hx hb dX2_splits_8 rfl (lv_at hl 1 rfl) ?_
      refine lv_iload_n hx hb dX2_splits_9 rfl (lv_at hl 2 rfl) ?_
      refine lv_iadd hx hb dX2_splits_10 ?_
      refine lv_icmp_ge (tgt := 111) hx hb dX2_splits_11 (by decide) (fun c_11 => ?_) (fun c_11 => ?_)
      · have hw := hw.1 c_11
        exact hret _ _ _ _ _ hw hR hS dX2_splits_111
      · have hw := hw.2 c_11
        refine lv_iload_n hx hb dX2_splits_14 rfl (lv_at hl 1 rfl) ?_
        refine lv_iload_n hx hb dX2_splits_15 rfl (lv_at hl 2 rfl) ?_
        refine lv_iadd hx hb dX2_splits_16 ?_
        refine lv_iconst (v := 1) hx hb dX2_splits_17 (by decide) ?_
        refine lv_isub hx hb dX2_splits_18 ?_
        refine lv_istore (lv' := [(6, .int ((x1 + x2) - 1)), (0, .ref o), (1, .int x1), (2, .int x2), (3, .int x3), (4, .int x4), (5, .int x5)]) hx hb dX2_splits_19 hl (by decide) rfl (fun ls hl => ?_)
        obtain ⟨n21, hw⟩ := hw
        exact hL21 x5 n21 σ ((x1 + x2) - 1) hw H locs ls hR hS (lv_sub hl [1, 2, 3, 4, 5, 6, 0] rfl)
  intro H ls hR hS hl
  have hl : lv_has ls 8 [(0, .ref o), (1, .int x1), (2, .int x2), (3, .int x3), (4, .int x4)] := hl
  generalize ([] : List Loc) = locs at hS ⊢
  unfold wM_splits at hw
  refine lv_iload_n hx hb dX2_splits_0 rfl (lv_at hl 1 rfl) ?_
  refine lv_istore (lv' := [(5, .int x1), (0, .ref o), (1, .int x1), (2, .int x2), (3, .int x3), (4, .int x4)]) hx hb dX2_splits_1 hl (by decide) rfl (fun ls hl => ?_)
  obtain ⟨n3, hw⟩ := hw
  exact hL3 x1 x2 x3 x4 n3 σ x1 hw H locs ls hR hS (lv_sub hl [1, 2, 3, 4, 5, 0] rfl)
def wM_expansion_l51  (Q : Int64 → mS → Prop)  (x1 : Int32) (x2 : Int32) (x3 : Int32) (x4 : Int32) (x5 : Int32) : Nat → mS → Int32 → Prop
  | 0, _, _ => False
  | n + 1, σ, x6 => (((9 : Int32) ≤ x6 → wM_splits σ (0 : Int32) (9 : Int32) (360 : Int32) x5 (fun σ115 => ((x5 ≤ x4 → True) ∧ (¬ x5 ≤ x4 → (((9 : Int32) ≤ ((x3 * x5) + x4) → True) ∧ (¬ (9 : Int32) ≤ ((x3 * x5) + x4) → (vp_in ((x3 * x5) + x4) 24 ∧ True))))) ∧ (∀ y122_0 : Int64, y122_0 = (if x5 ≤ x4 then 0 else (if (9 : Int32) ≤ ((x3 * x5) + x4) then 0 else (mgl σ115 8 ((x3 * x5) + x4).toNatClampNeg))) → Q y122_0 σ115))) ∧ (¬ (9 : Int32) ≤ x6 → wM_coefficient σ x1 x6 (fun r69 => wM_number σ (r69).toInt64 (fun r73 => vp_in x6 24 ∧ (∀ σ76 : mS, σ76 = mpl σ 8 x6.toNatClampNeg r73 → wM_coefficient σ76 x2 x6 (fun r92 => wM_number σ76 (r92).toInt64 (fun r96 => vp_in (360 + x6) 369 ∧ (∀ σ99 : mS, σ99 = mpl σ76 9 (360 + x6).toNatClampNeg r96 → wM_expansion_l51  Q  x1 x2 x3 x4 x5 n σ99 (x6 + 1)))))))))
def wM_expansion (σ : mS) (x1 : Int32) (x2 : Int32) (x3 : Int32) (x4 : Int32) (Q : Int64 → mS → Prop) : Prop :=
  wM_isSlot x1 (fun r1 => ((r1 = 0 → Q ((-9223372036854775808) : Int64) σ) ∧ (¬ r1 = 0 → wM_isSlot x2 (fun r8 => ((r8 = 0 → Q ((-9223372036854775808) : Int64) σ) ∧ (¬ r8 = 0 → wM_isPower x3 (fun r15 => ((r15 = 0 → Q ((-9223372036854775808) : Int64) σ) ∧ (¬ r15 = 0 → wM_isPower x4 (fun r23 => ((r23 = 0 → Q ((-9223372036854775808) : Int64) σ) ∧ (¬ r23 = 0 → wM_isMonic σ x2 (fun r31 => ((r31 = 0 → Q ((-9223372036854775808) : Int64) σ) ∧ (¬ r31 = 0 → wM_degreeOf σ x2 (fun r43 => (∃ k51 : Nat, wM_expansion_l51  Q  x1 x2 x3 x4 r43 k51 σ (0 : Int32))))))))))))))))))
set_option maxHeartbeats 4000000 in
theorem mM_expansion (l : Launch) (G : mG) (o : Nat) (ρ : Nat → Nat) (hap : mAp o ρ) (σ : mS) (x1 : Int32) (x2 : Int32) (x3 : Int32) (x4 : Int32) (Q : Int64 → mS → Prop) (hw : wM_expansion σ x1 x2 x3 x4 Q) : mMetL l G yX2_expansion (ws_ yX2_expansion cX2_expansion 7 (some .long)) 3 67 o ρ [.ref o, .int x1, .int x2, .int x3, .int x4] σ Q := by
  refine mo_L plain2 rfl (Nat.le_of_ble_eq_true rfl) ?_
  intro p e s R m args below meth c QQ X hRf hRl hret
  obtain ⟨hx, hb, hml, hown, hts, hE⟩ := id X
  have hL51 : ∀ (x1 : Int32) (x2 : Int32) (x3 : Int32) (x4 : Int32) (x5 : Int32) (n51 : Nat) (σ : mS) (x6 : Int32), wM_expansion_l51  Q  x1 x2 x3 x4 x5 n51 σ x6 → ∀ (H : Heap) (locs : List Loc) (ls : Array Slot), mR G o ρ σ H → va_S (mA o ρ) s.heap H locs → lv_has ls 7 [(0, .ref o), (1, .int x1), (2, .int x2), (3, .int x3), (4, .int x4), (5, .int x5), (6, .int x6)] → W p l e R s m args below meth c H locs 0 0 QQ (F0 m 51 ls []) := by
    intro x1 x2 x3 x4 x5 n51
    induction n51 with
    | zero => intro σ x6 hw; exact hw.elim
    | succ n51 ih51 =>
      intro σ x6 hw H locs ls hR hS hl
      rw [wM_expansion_l51] at hw
      refine lv_iload hx hb dX2_expansion_51 (lv_at hl 6 rfl) ?_
      refine lv_bipush (v := 9) hx hb dX2_expansion_53 (by decide) ?_
      refine lv_icmp_ge (tgt := 106) hx hb dX2_expansion_55 (by decide) (fun c_55 => ?_) (fun c_55 => ?_)
      · have hw := hw.1 c_55
        refine lv_aload_n hx hb dX2_expansion_106 rfl (lv_at hl 0 rfl) ?_
        refine lv_iconst (v := 0) hx hb dX2_expansion_107 (by decide) ?_
        refine lv_bipush (v := 9) hx hb dX2_expansion_108 (by decide) ?_
        refine lv_sipush (v := 360) hx hb dX2_expansion_110 (by decide) ?_
        refine lv_iload hx hb dX2_expansion_113 (lv_at hl 5 rfl) ?_
        refine mc_vv (As := [.int (0 : Int32), .int (9 : Int32), .int (360 : Int32), .int x5]) (rest := []) X (mM_splits l G o ρ hap σ (0 : Int32) (9 : Int32) (360 : Int32) x5 _ hw) (lw_V q2301 q2303 qs57 q_ini2 q2304) hd2_splits (mm_le hRf rfl) (mm_le hRl rfl) rfl rfl (Nat.le_of_ble_eq_true rfl) dX2_expansion_115 hR hS hl.1 (fun σ115 H locs hw hR hS => ?_)
        refine lv_iload hx hb dX2_expansion_118 (lv_at hl 4 rfl) ?_
        refine lv_iload hx hb dX2_expansion_120 (lv_at hl 5 rfl) ?_
        obtain ⟨hg, hw⟩ := hw
        have hK122 : ∀ (y122_0 : Int64), y122_0 = (if x5 ≤ x4 then 0 else (if (9 : Int32) ≤ ((x3 * x5) + x4) then 0 else (mgl σ115 8 ((x3 * x5) + x4).toNatClampNeg))) → ∀ (ls : Array Slot), lv_has ls 7 [] → W p l e R s m args below meth c H locs 0 0 QQ (F0 m 153 ls [.long y122_0]) := by
          intro y122_0 e_y122_0 ls hl
          have hw := hw y122_0 e_y122_0
          exact hret _ _ _ _ _ _ hw hR hS dX2_expansion_153
        refine lv_icmp_ge (tgt := 152) hx hb dX2_expansion_122 (by decide) (fun c_122 => ?_) (fun c_122 => ?_)
        · have hg := hg.1 c_122
          refine lv_lconst (v := 0) hx hb dX2_expansion_152 (by decide) ?_
          exact hK122 _ (if_pos c_122).symm ls (lv_sub hl [] rfl)
        · have hg := hg.2 c_122
          refine lv_iload_n hx hb dX2_expansion_125 rfl (lv_at hl 3 rfl) ?_
          refine lv_iload hx hb dX2_expansion_126 (lv_at hl 5 rfl) ?_
          refine lv_imul hx hb dX2_expansion_128 ?_
          refine lv_iload hx hb dX2_expansion_129 (lv_at hl 4 rfl) ?_
          refine lv_iadd hx hb dX2_expansion_131 ?_
          refine lv_bipush (v := 9) hx hb dX2_expansion_132 (by decide) ?_
          refine lv_icmp_ge (tgt := 152) hx hb dX2_expansion_134 (by decide) (fun c_134 => ?_) (fun c_134 => ?_)
          · have hg := hg.1 c_134
            refine lv_lconst (v := 0) hx hb dX2_expansion_152 (by decide) ?_
            exact hK122 _ ((if_pos c_134).symm.trans (if_neg c_122).symm) ls (lv_sub hl [] rfl)
          · have hg := hg.2 c_134
            refine lv_aload_n hx hb dX2_expansion_137 rfl (lv_at hl 0 rfl) ?_
            refine mg_8 hx hb hts hown hE hR dX2_expansion_138 ?_
            refine lv_iload_n hx hb dX2_expansion_141 rfl (lv_at hl 3 rfl) ?_
            refine lv_iload hx hb dX2_expansion_142 (lv_at hl 5 rfl) ?_
            refine lv_imul hx hb dX2_expansion_144 ?_
            refine lv_iload hx hb dX2_expansion_145 (lv_at hl 4 rfl) ?_
            refine lv_iadd hx hb dX2_expansion_147 ?_
            obtain ⟨hi_148, hg⟩ := hg
            refine ma_8 hx hb hE hR hi_148 dX2_expansion_148 ?_
            refine lv_goto (tgt := 153) hx hb dX2_expansion_149 (by decide) ?_
            exact hK122 _ ((if_neg c_134).symm.trans (if_neg c_122).symm) ls (lv_sub hl [] rfl)
      · have hw := hw.2 c_55
        refine lv_aload_n hx hb dX2_expansion_58 rfl (lv_at hl 0 rfl) ?_
        refine mg_8 hx hb hts hown hE hR dX2_expansion_59 ?_
        refine lv_iload hx hb dX2_expansion_62 (lv_at hl 6 rfl) ?_
        refine lv_aload_n hx hb dX2_expansion_64 rfl (lv_at hl 0 rfl) ?_
        refine lv_aload_n hx hb dX2_expansion_65 rfl (lv_at hl 0 rfl) ?_
        refine lv_iload_n hx hb dX2_expansion_66 rfl (lv_at hl 1 rfl) ?_
        refine lv_iload hx hb dX2_expansion_67 (lv_at hl 6 rfl) ?_
        refine mc_vir (As := [.int x1, .int x6]) (rest := [.ref o, .int x6, .ref (ρ 8)]) X (mM_coefficient l G o ρ hap σ x1 x6 _ hw) (lw_V q2253 q2255 qs54 q_ini2 q2256) hd2_coefficient (mm_le hRf rfl) (mm_le hRl rfl) rfl rfl (Nat.le_of_ble_eq_true rfl) dX2_expansion_69 hR hS hl.1 (fun r69 H locs hw hR hS => ?_)
        refine lv_i2l hx hb dX2_expansion_72 rfl ?_
        refine mc_vlr (As := [.long (r69).toInt64]) (rest := [.int x6, .ref (ρ 8)]) X (mM_number l G o ρ hap σ (r69).toInt64 _ hw) (lw_V q2297 q2299 qs56 q_ini2 q2300) hd2_number (mm_le hRf rfl) (mm_le hRl rfl) rfl rfl (Nat.le_of_ble_eq_true rfl) dX2_expansion_73 hR hS hl.1 (fun r73 H locs hw hR hS => ?_)
        obtain ⟨hi_76, hw⟩ := hw
        refine mst_8 hx hb hE hap hR hS hi_76 dX2_expansion_76 (fun σ76 e_σ76 H locs hR hS => ?_)
        have hw := hw σ76 e_σ76
        clear e_σ76
        refine lv_aload_n hx hb dX2_expansion_77 rfl (lv_at hl 0 rfl) ?_
        refine mg_9 hx hb hts hown hE hR dX2_expansion_78 ?_
        refine lv_sipush (v := 360) hx hb dX2_expansion_81 (by decide) ?_
        refine lv_iload hx hb dX2_expansion_84 (lv_at hl 6 rfl) ?_
        refine lv_iadd hx hb dX2_expansion_86 ?_
        refine lv_aload_n hx hb dX2_expansion_87 rfl (lv_at hl 0 rfl) ?_
        refine lv_aload_n hx hb dX2_expansion_88 rfl (lv_at hl 0 rfl) ?_
        refine lv_iload_n hx hb dX2_expansion_89 rfl (lv_at hl 2 rfl) ?_
        refine lv_iload hx hb dX2_expansion_90 (lv_at hl 6 rfl) ?_
        refine mc_vir (As := [.int x2, .int x6]) (rest := [.ref o, .int (360 + x6), .ref (ρ 9)]) X (mM_coefficient l G o ρ hap σ76 x2 x6 _ hw) (lw_V q2253 q2255 qs54 q_ini2 q2256) hd2_coefficient (mm_le hRf rfl) (mm_le hRl rfl) rfl rfl (Nat.le_of_ble_eq_true rfl) dX2_expansion_92 hR hS hl.1 (fun r92 H locs hw hR hS => ?_)
        refine lv_i2l hx hb dX2_expansion_95 rfl ?_
        refine mc_vlr (As := [.long (r92).toInt64]) (rest := [.int (360 + x6), .ref (ρ 9)]) X (mM_number l G o ρ hap σ76 (r92).toInt64 _ hw) (lw_V q2297 q2299 qs56 q_ini2 q2300) hd2_number (mm_le hRf rfl) (mm_le hRl rfl) rfl rfl (Nat.le_of_ble_eq_true rfl) dX2_expansion_96 hR hS hl.1 (fun r96 H locs hw hR hS => ?_)
        obtain ⟨hi_99, hw⟩ := hw
        refine mst_9 hx hb hE hap hR hS hi_99 dX2_expansion_99 (fun σ99 e_σ99 H locs hR hS => ?_)
        have hw := hw σ99 e_σ99
        clear e_σ99
        refine lv_iinc (k := 6) (lv' := [(6, .int (x6 + 1)), (0, .ref o), (1, .int x1), (2, .int x2), (3, .int x3), (4, .int x4), (5, .int x5)]) hx hb dX2_expansion_100 hl rfl (congrArg (x6 + ·) (by decide : Int32.ofInt 1 = 1)) (by decide) rfl (fun ls hl => ?_)
        refine lv_goto (tgt := 51) hx hb dX2_expansion_103 (by decide) ?_
        exact ih51 σ99 (x6 + 1) hw H locs ls hR hS (lv_sub hl [1, 2, 3, 4, 5, 6, 0] rfl)
  intro H ls hR hS hl
  have hl : lv_has ls 7 [(0, .ref o), (1, .int x1), (2, .int x2), (3, .int x3), (4, .int x4)] := hl
  generalize ([] : List Loc) = locs at hS ⊢
  unfold wM_expansion at hw
  refine lv_iload_n hx hb dX2_expansion_0 rfl (lv_at hl 1 rfl) ?_
  refine mc_si (As := [.int x1]) (rest := []) X (mM_isSlot l x1 _ hw) (lw_S q2209 q2210 q_ini2 q2211) hd2_isSlot (mm_le hRf rfl) (mm_le hRl rfl) rfl rfl (Nat.le_of_ble_eq_true rfl) dX2_expansion_1 hR hS hl.1 (fun r1 H locs hw hR hS => ?_)
  refine lv_if_eq (tgt := 37) hx hb dX2_expansion_4 (by decide) (fun c_4 => ?_) (fun c_4 => ?_)
  · have hw := hw.1 c_4
    refine lv_ldc2 (v := (-9223372036854775808)) hx hb hown (hts _ q2264) dX2_expansion_37 ?_
    exact hret _ _ _ _ _ _ hw hR hS dX2_expansion_40
  · have hw := hw.2 c_4
    refine lv_iload_n hx hb dX2_expansion_7 rfl (lv_at hl 2 rfl) ?_
    refine mc_si (As := [.int x2]) (rest := []) X (mM_isSlot l x2 _ hw) (lw_S q2209 q2210 q_ini2 q2211) hd2_isSlot (mm_le hRf rfl) (mm_le hRl rfl) rfl rfl (Nat.le_of_ble_eq_true rfl) dX2_expansion_8 hR hS hl.1 (fun r8 H locs hw hR hS => ?_)
    refine lv_if_eq (tgt := 37) hx hb dX2_expansion_11 (by decide) (fun c_11 => ?_) (fun c_11 => ?_)
    · have hw := hw.1 c_11
      refine lv_ldc2 (v := (-9223372036854775808)) hx hb hown (hts _ q2264) dX2_expansion_37 ?_
      exact hret _ _ _ _ _ _ hw hR hS dX2_expansion_40
    · have hw := hw.2 c_11
      refine lv_iload_n hx hb dX2_expansion_14 rfl (lv_at hl 3 rfl) ?_
      refine mc_si (As := [.int x3]) (rest := []) X (mM_isPower l x3 _ hw) (lw_S q2261 q2262 q_ini2 q2263) hd2_isPower (mm_le hRf rfl) (mm_le hRl rfl) rfl rfl (Nat.le_of_ble_eq_true rfl) dX2_expansion_15 hR hS hl.1 (fun r15 H locs hw hR hS => ?_)
      refine lv_if_eq (tgt := 37) hx hb dX2_expansion_18 (by decide) (fun c_18 => ?_) (fun c_18 => ?_)
      · have hw := hw.1 c_18
        refine lv_ldc2 (v := (-9223372036854775808)) hx hb hown (hts _ q2264) dX2_expansion_37 ?_
        exact hret _ _ _ _ _ _ hw hR hS dX2_expansion_40
      · have hw := hw.2 c_18
        refine lv_iload hx hb dX2_expansion_21 (lv_at hl 4 rfl) ?_
        refine mc_si (As := [.int x4]) (rest := []) X (mM_isPower l x4 _ hw) (lw_S q2261 q2262 q_ini2 q2263) hd2_isPower (mm_le hRf rfl) (mm_le hRl rfl) rfl rfl (Nat.le_of_ble_eq_true rfl) dX2_expansion_23 hR hS hl.1 (fun r23 H locs hw hR hS => ?_)
        refine lv_if_eq (tgt := 37) hx hb dX2_expansion_26 (by decide) (fun c_26 => ?_) (fun c_26 => ?_)
        · have hw := hw.1 c_26
          refine lv_ldc2 (v := (-9223372036854775808)) hx hb hown (hts _ q2264) dX2_expansion_37 ?_
          exact hret _ _ _ _ _ _ hw hR hS dX2_expansion_40
        · have hw := hw.2 c_26
          refine lv_aload_n hx hb dX2_expansion_29 rfl (lv_at hl 0 rfl) ?_
          refine lv_iload_n hx hb dX2_expansion_30 rfl (lv_at hl 2 rfl) ?_
          refine mc_vir (As := [.int x2]) (rest := []) X (mM_isMonic l G o ρ hap σ x2 _ hw) (lw_V q2273 q2275 qs55 q_ini2 q2276) hd2_isMonic (mm_le hRf rfl) (mm_le hRl rfl) rfl rfl (Nat.le_of_ble_eq_true rfl) dX2_expansion_31 hR hS hl.1 (fun r31 H locs hw hR hS => ?_)
          refine lv_if_ne (tgt := 41) hx hb dX2_expansion_34 (by decide) (fun c_34 => ?_) (fun c_34 => ?_)
          · have hw := hw.2 c_34
            refine lv_aload_n hx hb dX2_expansion_41 rfl (lv_at hl 0 rfl) ?_
            refine lv_iload_n hx hb dX2_expansion_42 rfl (lv_at hl 2 rfl) ?_
            refine mc_vir (As := [.int x2]) (rest := []) X (mM_degreeOf l G o ρ hap σ x2 _ hw) (lw_V q2249 q2251 qs53 q_ini2 q2252) hd2_degreeOf (mm_le hRf rfl) (mm_le hRl rfl) rfl rfl (Nat.le_of_ble_eq_true rfl) dX2_expansion_43 hR hS hl.1 (fun r43 H locs hw hR hS => ?_)
            refine lv_istore (lv' := [(5, .int r43), (0, .ref o), (1, .int x1), (2, .int x2), (3, .int x3), (4, .int x4)]) hx hb dX2_expansion_46 hl (by decide) rfl (fun ls hl => ?_)
            refine lv_iconst (v := 0) hx hb dX2_expansion_48 (by decide) ?_
            refine lv_istore (lv' := [(6, .int 0), (5, .int r43), (0, .ref o), (1, .int x1), (2, .int x2), (3, .int x3), (4, .int x4)]) hx hb dX2_expansion_49 hl (by decide) rfl (fun ls hl => ?_)
            obtain ⟨n51, hw⟩ := hw
            exact hL51 x1 x2 x3 x4 r43 n51 σ (0 : Int32) hw H locs ls hR hS (lv_sub hl [2, 3, 4, 5, 6, 1, 0] rfl)
          · have hw := hw.1 c_34
            refine lv_ldc2 (v := (-9223372036854775808)) hx hb hown (hts _ q2264) dX2_expansion_37 ?_
            exact hret _ _ _ _ _ _ hw hR hS dX2_expansion_40
def wM_residue (σ : mS) (x1 : Int64) (Q : Int32 → Prop) : Prop :=
  ¬ (mgi σ 0).toInt64 = 0 ∧ (∀ y10_0 : Int32, y10_0 = (if 0 ≤ (x1 - x1 / (mgi σ 0).toInt64 * (mgi σ 0).toInt64).toInt32 then (x1 - x1 / (mgi σ 0).toInt64 * (mgi σ 0).toInt64).toInt32 else ((x1 - x1 / (mgi σ 0).toInt64 * (mgi σ 0).toInt64).toInt32 + (mgi σ 0))) → Q y10_0)
set_option maxHeartbeats 4000000 in
theorem mM_residue (l : Launch) (G : mG) (o : Nat) (ρ : Nat → Nat) (hap : mAp o ρ) (σ : mS) (x1 : Int64) (Q : Int32 → Prop) (hw : wM_residue σ x1 Q) : mMetI l G yX2_residue (ws_ yX2_residue cX2_residue 4 (some .int)) 0 0 o ρ [.ref o, .long x1] σ (fun r τ => σ = τ ∧ Q r) := by
  refine mo_I plain2 rfl (Nat.le_of_ble_eq_true rfl) ?_
  intro p e s R m args below meth c QQ X hRf hRl hret
  obtain ⟨hx, hb, hml, hown, hts, hE⟩ := id X
  intro H ls hR hS hl
  have hl : lv_has ls 4 [(0, .ref o), (1, .long x1)] := hl
  generalize ([] : List Loc) = locs at hS ⊢
  unfold wM_residue at hw
  refine lv_lload_n hx hb dX2_residue_0 rfl (lv_at hl 1 rfl) ?_
  refine lv_aload_n hx hb dX2_residue_1 rfl (lv_at hl 0 rfl) ?_
  refine mg_0 hx hb hts hown hE hR dX2_residue_2 ?_
  refine lv_i2l hx hb dX2_residue_5 rfl ?_
  obtain ⟨hz_6, hw⟩ := hw
  refine lv_lrem hx hb dX2_residue_6 hz_6 ?_
  refine lv_l2i hx hb dX2_residue_7 rfl ?_
  refine lv_istore_n (lv' := [(3, .int (x1 - x1 / (mgi σ 0).toInt64 * (mgi σ 0).toInt64).toInt32), (0, .ref o), (1, .long x1)]) hx hb dX2_residue_8 rfl hl (by decide) rfl (fun ls hl => ?_)
  refine lv_iload_n hx hb dX2_residue_9 rfl (lv_at hl 0 rfl) ?_
  have hK10 : ∀ (y10_0 : Int32), y10_0 = (if 0 ≤ (x1 - x1 / (mgi σ 0).toInt64 * (mgi σ 0).toInt64).toInt32 then (x1 - x1 / (mgi σ 0).toInt64 * (mgi σ 0).toInt64).toInt32 else ((x1 - x1 / (mgi σ 0).toInt64 * (mgi σ 0).toInt64).toInt32 + (mgi σ 0))) → ∀ (ls : Array Slot), lv_has ls 4 [] → W p l e R s m args below meth c H locs 0 0 QQ (F0 m 23 ls [.int y10_0]) := by
    intro y10_0 e_y10_0 ls hl
    have hw := hw y10_0 e_y10_0
    exact hret _ _ _ _ _ _ ⟨rfl, hw⟩ hR hS dX2_residue_23
  refine lv_if_ge (tgt := 22) hx hb dX2_residue_10 (by decide) (fun c_10 => ?_) (fun c_10 => ?_)
  · refine lv_iload_n hx hb dX2_residue_22 rfl (lv_at hl 0 rfl) ?_
    exact hK10 _ (if_pos c_10).symm ls (lv_sub hl [] rfl)
  · refine lv_iload_n hx hb dX2_residue_13 rfl (lv_at hl 0 rfl) ?_
    refine lv_aload_n hx hb dX2_residue_14 rfl (lv_at hl 1 rfl) ?_
    refine mg_0 hx hb hts hown hE hR dX2_residue_15 ?_
    refine lv_iadd hx hb dX2_residue_18 ?_
    refine lv_goto (tgt := 23) hx hb dX2_residue_19 (by decide) ?_
    exact hK10 _ (if_neg c_10).symm ls (lv_sub hl [] rfl)
def wM_measures_l7  (Q : mS → Prop)   : Nat → mS → Int32 → Prop
  | 0, _, _ => False
  | n + 1, σ, x1 => (((9 : Int32) ≤ x1 → Q σ) ∧ (¬ (9 : Int32) ≤ x1 → vp_in x1 9 ∧ (∀ y20_0 : Int32, y20_0 = (if (mga σ 10 x1.toNatClampNeg) = 0 then (mgi σ 11) else x1) → ∀ σ31 : mS, σ31 = mpi σ 11 y20_0 → wM_measures_l7  Q   n σ31 (x1 + 1))))
def wM_measures (σ : mS)  (Q : mS → Prop) : Prop :=
  ∀ σ2 : mS, σ2 = mpi σ 11 (-1) → (∃ k7 : Nat, wM_measures_l7  Q   k7 σ2 (0 : Int32))
set_option maxHeartbeats 4000000 in
theorem mM_measures (l : Launch) (G : mG) (o : Nat) (ρ : Nat → Nat) (hap : mAp o ρ) (σ : mS)  (Q : mS → Prop) (hw : wM_measures σ  Q) : mMetV l G yX2_measures (ws_ yX2_measures cX2_measures 2 none) 0 0 o ρ [.ref o] σ Q := by
  refine mo_V plain2 rfl (Nat.le_of_ble_eq_true rfl) ?_
  intro p e s R m args below meth c QQ X hRf hRl hret
  obtain ⟨hx, hb, hml, hown, hts, hE⟩ := id X
  have hL7 : ∀ (n7 : Nat) (σ : mS) (x1 : Int32), wM_measures_l7  Q   n7 σ x1 → ∀ (H : Heap) (locs : List Loc) (ls : Array Slot), mR G o ρ σ H → va_S (mA o ρ) s.heap H locs → lv_has ls 2 [(0, .ref o), (1, .int x1)] → W p l e R s m args below meth c H locs 0 0 QQ (F0 m 7 ls []) := by
    intro  n7
    induction n7 with
    | zero => intro σ x1 hw; exact hw.elim
    | succ n7 ih7 =>
      intro σ x1 hw H locs ls hR hS hl
      rw [wM_measures_l7] at hw
      refine lv_iload_n hx hb dX2_measures_7 rfl (lv_at hl 1 rfl) ?_
      refine lv_bipush (v := 9) hx hb dX2_measures_8 (by decide) ?_
      refine lv_icmp_ge (tgt := 40) hx hb dX2_measures_10 (by decide) (fun c_10 => ?_) (fun c_10 => ?_)
      · have hw := hw.1 c_10
        exact hret _ _ _ _ _ hw hR hS dX2_measures_40
      · have hw := hw.2 c_10
        refine lv_aload_n hx hb dX2_measures_13 rfl (lv_at hl 0 rfl) ?_
        refine lv_aload_n hx hb dX2_measures_14 rfl (lv_at hl 0 rfl) ?_
        refine mg_10 hx hb hts hown hE hR dX2_measures_15 ?_
        refine lv_iload_n hx hb dX2_measures_18 rfl (lv_at hl 1 rfl) ?_
        obtain ⟨hi_19, hw⟩ := hw
        refine ma_10 hx hb hE hR hi_19 dX2_measures_19 ?_
        have hK20 : ∀ (y20_0 : Int32), y20_0 = (if (mga σ 10 x1.toNatClampNeg) = 0 then (mgi σ 11) else x1) → ∀ (ls : Array Slot), lv_has ls 2 [(0, .ref o), (1, .int x1)] → W p l e R s m args below meth c H locs 0 0 QQ (F0 m 31 ls [.int y20_0, .ref o]) := by
          intro y20_0 e_y20_0 ls hl
          have hw := hw y20_0 e_y20_0
          refine mp_11 hx hb hts hown hE hap hR hS dX2_measures_31 (fun σ31 e_σ31 H locs hR hS => ?_)
          have hw := hw σ31 e_σ31
          clear e_σ31
          refine lv_iinc (k := 1) (lv' := [(1, .int (x1 + 1)), (0, .ref o)]) hx hb dX2_measures_34 hl rfl (congrArg (x1 + ·) (by decide : Int32.ofInt 1 = 1)) (by decide) rfl (fun ls hl => ?_)
          refine lv_goto (tgt := 7) hx hb dX2_measures_37 (by decide) ?_
          exact ih7 σ31 (x1 + 1) hw H locs ls hR hS (lv_sub hl [1, 0] rfl)
        refine lv_if_eq (tgt := 27) hx hb dX2_measures_20 (by decide) (fun c_20 => ?_) (fun c_20 => ?_)
        · refine lv_aload_n hx hb dX2_measures_27 rfl (lv_at hl 0 rfl) ?_
          refine mg_11 hx hb hts hown hE hR dX2_measures_28 ?_
          exact hK20 _ (if_pos c_20).symm ls (lv_sub hl [0, 1] rfl)
        · refine lv_iload_n hx hb dX2_measures_23 rfl (lv_at hl 1 rfl) ?_
          refine lv_goto (tgt := 31) hx hb dX2_measures_24 (by decide) ?_
          exact hK20 _ (if_neg c_20).symm ls (lv_sub hl [0, 1] rfl)
  intro H ls hR hS hl
  have hl : lv_has ls 2 [(0, .ref o)] := hl
  generalize ([] : List Loc) = locs at hS ⊢
  unfold wM_measures at hw
  refine lv_aload_n hx hb dX2_measures_0 rfl (lv_at hl 0 rfl) ?_
  refine lv_iconst (v := (-1)) hx hb dX2_measures_1 (by decide) ?_
  refine mp_11 hx hb hts hown hE hap hR hS dX2_measures_2 (fun σ2 e_σ2 H locs hR hS => ?_)
  have hw := hw σ2 e_σ2
  clear e_σ2
  refine lv_iconst (v := 0) hx hb dX2_measures_5 (by decide) ?_
  refine lv_istore_n (lv' := [(1, .int 0), (0, .ref o)]) hx hb dX2_measures_6 rfl hl (by decide) rfl (fun ls hl => ?_)
  obtain ⟨n7, hw⟩ := hw
  exact hL7  n7 σ2 (0 : Int32) hw H locs ls hR hS (lv_sub hl [1, 0] rfl)
def wM_laysResidues_l2  (Q : Int32 → mS → Prop)  (x1 : Int32) : Nat → mS → Int32 → Prop
  | 0, _, _ => False
  | n + 1, σ, x2 => (((9 : Int32) ≤ x2 → wM_measures σ  (fun σ32 => ∀ y39_0 : Int32, y39_0 = (if (mgi σ32 11) < 0 then 0 else 1) → (y39_0 = 0 ∨ y39_0 = 1) ∧ Q y39_0 σ32)) ∧ (¬ (9 : Int32) ≤ x2 → wM_coefficient σ x1 x2 (fun r17 => wM_residue σ (r17).toInt64 (fun r21 => vp_in x2 9 ∧ (∀ σ24 : mS, σ24 = mpa σ 10 x2.toNatClampNeg r21 → wM_laysResidues_l2  Q  x1 n σ24 (x2 + 1))))))
def wM_laysResidues (σ : mS) (x1 : Int32) (Q : Int32 → mS → Prop) : Prop :=
  (∃ k2 : Nat, wM_laysResidues_l2  Q  x1 k2 σ (0 : Int32))
set_option maxHeartbeats 4000000 in
theorem mM_laysResidues (l : Launch) (G : mG) (o : Nat) (ρ : Nat → Nat) (hap : mAp o ρ) (σ : mS) (x1 : Int32) (Q : Int32 → mS → Prop) (hw : wM_laysResidues σ x1 Q) : mMetI l G yX2_laysResidues (ws_ yX2_laysResidues cX2_laysResidues 3 (some .boolean)) 1 23 o ρ [.ref o, .int x1] σ Q := by
  refine mo_Z plain2 rfl (Nat.le_of_ble_eq_true rfl) ?_
  intro p e s R m args below meth c QQ X hRf hRl hret
  obtain ⟨hx, hb, hml, hown, hts, hE⟩ := id X
  have hL2 : ∀ (x1 : Int32) (n2 : Nat) (σ : mS) (x2 : Int32), wM_laysResidues_l2  Q  x1 n2 σ x2 → ∀ (H : Heap) (locs : List Loc) (ls : Array Slot), mR G o ρ σ H → va_S (mA o ρ) s.heap H locs → lv_has ls 3 [(0, .ref o), (1, .int x1), (2, .int x2)] → W p l e R s m args below meth c H locs 0 0 QQ (F0 m 2 ls []) := by
    intro x1 n2
    induction n2 with
    | zero => intro σ x2 hw; exact hw.elim
    | succ n2 ih2 =>
      intro σ x2 hw H locs ls hR hS hl
      rw [wM_laysResidues_l2] at hw
      refine lv_iload_n hx hb dX2_laysResidues_2 rfl (lv_at hl 2 rfl) ?_
      refine lv_bipush (v := 9) hx hb dX2_laysResidues_3 (by decide) ?_
      refine lv_icmp_ge (tgt := 31) hx hb dX2_laysResidues_5 (by decide) (fun c_5 => ?_) (fun c_5 => ?_)
      · have hw := hw.1 c_5
        refine lv_aload_n hx hb dX2_laysResidues_31 rfl (lv_at hl 0 rfl) ?_
        refine mc_vv (As := []) (rest := []) X (mM_measures l G o ρ hap σ  _ hw) (lw_V q2319 q2321 qs60 q_ini2 q2322) hd2_measures (mm_le hRf rfl) (mm_le hRl rfl) rfl rfl (Nat.le_of_ble_eq_true rfl) dX2_laysResidues_32 hR hS hl.1 (fun σ32 H locs hw hR hS => ?_)
        refine lv_aload_n hx hb dX2_laysResidues_35 rfl (lv_at hl 0 rfl) ?_
        refine mg_11 hx hb hts hown hE hR dX2_laysResidues_36 ?_
        have hK39 : ∀ (y39_0 : Int32), y39_0 = (if (mgi σ32 11) < 0 then 0 else 1) → ∀ (ls : Array Slot), lv_has ls 3 [] → W p l e R s m args below meth c H locs 0 0 QQ (F0 m 47 ls [.int y39_0]) := by
          intro y39_0 e_y39_0 ls hl
          have hw := hw y39_0 e_y39_0
          obtain ⟨hz, hw⟩ := hw
          exact hret _ _ _ _ _ _ hw hz hR hS dX2_laysResidues_47
        refine lv_if_lt (tgt := 46) hx hb dX2_laysResidues_39 (by decide) (fun c_39 => ?_) (fun c_39 => ?_)
        · refine lv_iconst (v := 0) hx hb dX2_laysResidues_46 (by decide) ?_
          exact hK39 _ (if_pos c_39).symm ls (lv_sub hl [] rfl)
        · refine lv_iconst (v := 1) hx hb dX2_laysResidues_42 (by decide) ?_
          refine lv_goto (tgt := 47) hx hb dX2_laysResidues_43 (by decide) ?_
          exact hK39 _ (if_neg c_39).symm ls (lv_sub hl [] rfl)
      · have hw := hw.2 c_5
        refine lv_aload_n hx hb dX2_laysResidues_8 rfl (lv_at hl 0 rfl) ?_
        refine mg_10 hx hb hts hown hE hR dX2_laysResidues_9 ?_
        refine lv_iload_n hx hb dX2_laysResidues_12 rfl (lv_at hl 2 rfl) ?_
        refine lv_aload_n hx hb dX2_laysResidues_13 rfl (lv_at hl 0 rfl) ?_
        refine lv_aload_n hx hb dX2_laysResidues_14 rfl (lv_at hl 0 rfl) ?_
        refine lv_iload_n hx hb dX2_laysResidues_15 rfl (lv_at hl 1 rfl) ?_
        refine lv_iload_n hx hb dX2_laysResidues_16 rfl (lv_at hl 2 rfl) ?_
        refine mc_vir (As := [.int x1, .int x2]) (rest := [.ref o, .int x2, .ref (ρ 10)]) X (mM_coefficient l G o ρ hap σ x1 x2 _ hw) (lw_V q2253 q2255 qs54 q_ini2 q2256) hd2_coefficient (mm_le hRf rfl) (mm_le hRl rfl) rfl rfl (Nat.le_of_ble_eq_true rfl) dX2_laysResidues_17 hR hS hl.1 (fun r17 H locs hw hR hS => ?_)
        refine lv_i2l hx hb dX2_laysResidues_20 rfl ?_
        refine mc_vir (As := [.long (r17).toInt64]) (rest := [.int x2, .ref (ρ 10)]) X (mM_residue l G o ρ hap σ (r17).toInt64 _ hw) (lw_V q2315 q2317 qs59 q_ini2 q2318) hd2_residue (mm_le hRf rfl) (mm_le hRl rfl) rfl rfl (Nat.le_of_ble_eq_true rfl) dX2_laysResidues_21 hR hS hl.1 (fun r21 H locs hw hR hS => ?_)
        obtain ⟨hi_24, hw⟩ := hw
        refine mst_10 hx hb hE hap hR hS hi_24 dX2_laysResidues_24 (fun σ24 e_σ24 H locs hR hS => ?_)
        have hw := hw σ24 e_σ24
        clear e_σ24
        refine lv_iinc (k := 2) (lv' := [(2, .int (x2 + 1)), (0, .ref o), (1, .int x1)]) hx hb dX2_laysResidues_25 hl rfl (congrArg (x2 + ·) (by decide : Int32.ofInt 1 = 1)) (by decide) rfl (fun ls hl => ?_)
        refine lv_goto (tgt := 2) hx hb dX2_laysResidues_28 (by decide) ?_
        exact ih2 σ24 (x2 + 1) hw H locs ls hR hS (lv_sub hl [1, 2, 0] rfl)
  intro H ls hR hS hl
  have hl : lv_has ls 3 [(0, .ref o), (1, .int x1)] := hl
  generalize ([] : List Loc) = locs at hS ⊢
  unfold wM_laysResidues at hw
  refine lv_iconst (v := 0) hx hb dX2_laysResidues_0 (by decide) ?_
  refine lv_istore_n (lv' := [(2, .int 0), (0, .ref o), (1, .int x1)]) hx hb dX2_laysResidues_1 rfl hl (by decide) rfl (fun ls hl => ?_)
  obtain ⟨n2, hw⟩ := hw
  exact hL2 x1 n2 σ (0 : Int32) hw H locs ls hR hS (lv_sub hl [1, 2, 0] rfl)
def wM_inverse_l2  (Q : Int32 → Prop) (σ : mS) (x1 : Int32) : Nat → Int32 → Prop
  | 0, _ => False
  | n + 1, x2 => ¬ (mgi σ 0) = 0 ∧ (((((x2 * x1) - (x2 * x1) / (mgi σ 0) * (mgi σ 0)) = (1 : Int32) → Q x2) ∧ (¬ ((x2 * x1) - (x2 * x1) / (mgi σ 0) * (mgi σ 0)) = (1 : Int32) → wM_inverse_l2  Q σ x1 n (x2 + 1))))
def wM_inverse (σ : mS) (x1 : Int32) (Q : Int32 → Prop) : Prop :=
  (∃ k2 : Nat, wM_inverse_l2  Q σ x1 k2 (1 : Int32))
set_option maxHeartbeats 4000000 in
theorem mM_inverse (l : Launch) (G : mG) (o : Nat) (ρ : Nat → Nat) (hap : mAp o ρ) (σ : mS) (x1 : Int32) (Q : Int32 → Prop) (hw : wM_inverse σ x1 Q) : mMetI l G yX2_inverse (ws_ yX2_inverse cX2_inverse 3 (some .int)) 0 0 o ρ [.ref o, .int x1] σ (fun r τ => σ = τ ∧ Q r) := by
  refine mo_I plain2 rfl (Nat.le_of_ble_eq_true rfl) ?_
  intro p e s R m args below meth c QQ X hRf hRl hret
  obtain ⟨hx, hb, hml, hown, hts, hE⟩ := id X
  have hL2 : ∀ (x1 : Int32) (n2 : Nat) (x2 : Int32), wM_inverse_l2  Q σ x1 n2 x2 → ∀ (H : Heap) (locs : List Loc) (ls : Array Slot), mR G o ρ σ H → va_S (mA o ρ) s.heap H locs → lv_has ls 3 [(0, .ref o), (1, .int x1), (2, .int x2)] → W p l e R s m args below meth c H locs 0 0 QQ (F0 m 2 ls []) := by
    intro x1 n2
    induction n2 with
    | zero => intro x2 hw; exact hw.elim
    | succ n2 ih2 =>
      intro x2 hw H locs ls hR hS hl
      rw [wM_inverse_l2] at hw
      refine lv_iload_n hx hb dX2_inverse_2 rfl (lv_at hl 2 rfl) ?_
      refine lv_iload_n hx hb dX2_inverse_3 rfl (lv_at hl 1 rfl) ?_
      refine lv_imul hx hb dX2_inverse_4 ?_
      refine lv_aload_n hx hb dX2_inverse_5 rfl (lv_at hl 0 rfl) ?_
      refine mg_0 hx hb hts hown hE hR dX2_inverse_6 ?_
      obtain ⟨hz_9, hw⟩ := hw
      refine lv_irem hx hb dX2_inverse_9 hz_9 ?_
      refine lv_iconst (v := 1) hx hb dX2_inverse_10 (by decide) ?_
      refine lv_icmp_eq (tgt := 20) hx hb dX2_inverse_11 (by decide) (fun c_11 => ?_) (fun c_11 => ?_)
      · have hw := hw.1 c_11
        refine lv_iload_n hx hb dX2_inverse_20 rfl (lv_at hl 2 rfl) ?_
        exact hret _ _ _ _ _ _ ⟨rfl, hw⟩ hR hS dX2_inverse_21
      · have hw := hw.2 c_11
        refine lv_iinc (k := 2) (lv' := [(2, .int (x2 + 1)), (0, .ref o), (1, .int x1)]) hx hb dX2_inverse_14 hl rfl (congrArg (x2 + ·) (by decide : Int32.ofInt 1 = 1)) (by decide) rfl (fun ls hl => ?_)
        refine lv_goto (tgt := 2) hx hb dX2_inverse_17 (by decide) ?_
        exact ih2 (x2 + 1) hw H locs ls hR hS (lv_sub hl [1, 2, 0] rfl)
  intro H ls hR hS hl
  have hl : lv_has ls 3 [(0, .ref o), (1, .int x1)] := hl
  generalize ([] : List Loc) = locs at hS ⊢
  unfold wM_inverse at hw
  refine lv_iconst (v := 1) hx hb dX2_inverse_0 (by decide) ?_
  refine lv_istore_n (lv' := [(2, .int 1), (0, .ref o), (1, .int x1)]) hx hb dX2_inverse_1 rfl hl (by decide) rfl (fun ls hl => ?_)
  obtain ⟨n2, hw⟩ := hw
  exact hL2 x1 n2 (1 : Int32) hw H locs ls hR hS (lv_sub hl [1, 2, 0] rfl)
def wM_laysTrial_l5  (Q : mS → Prop)  (x2 : Int32) : Nat → mS → Int32 → Int32 → Prop
  | 0, _, _, _ => False
  | n + 1, σ, x3, x4 => (((9 : Int32) ≤ x4 → Q σ) ∧ (¬ (9 : Int32) ≤ x4 → ((x2 ≤ x4 → True) ∧ (¬ x2 ≤ x4 → (¬ (mgi σ 0) = 0 ∧ True))) ∧ (∀ y21_0 : Int32, y21_0 = (if x2 ≤ x4 then (if x4 = x2 then 1 else 0) else (x3 - x3 / (mgi σ 0) * (mgi σ 0))) → vp_in x4 9 ∧ (∀ σ44 : mS, σ44 = mpa σ 16 x4.toNatClampNeg y21_0 → ¬ (mgi σ44 0) = 0 ∧ (wM_laysTrial_l5  Q  x2 n σ44 (x3 / (mgi σ44 0)) (x4 + 1))))))
def wM_laysTrial (σ : mS) (x1 : Int32) (x2 : Int32) (Q : mS → Prop) : Prop :=
  (∃ k5 : Nat, wM_laysTrial_l5  Q  x2 k5 σ x1 (0 : Int32))
set_option maxHeartbeats 4000000 in
theorem mM_laysTrial (l : Launch) (G : mG) (o : Nat) (ρ : Nat → Nat) (hap : mAp o ρ) (σ : mS) (x1 : Int32) (x2 : Int32) (Q : mS → Prop) (hw : wM_laysTrial σ x1 x2 Q) : mMetV l G yX2_laysTrial (ws_ yX2_laysTrial cX2_laysTrial 5 none) 0 0 o ρ [.ref o, .int x1, .int x2] σ Q := by
  refine mo_V plain2 rfl (Nat.le_of_ble_eq_true rfl) ?_
  intro p e s R m args below meth c QQ X hRf hRl hret
  obtain ⟨hx, hb, hml, hown, hts, hE⟩ := id X
  have hL5 : ∀ (x2 : Int32) (n5 : Nat) (σ : mS) (x3 : Int32) (x4 : Int32), wM_laysTrial_l5  Q  x2 n5 σ x3 x4 → ∀ (H : Heap) (locs : List Loc) (ls : Array Slot), mR G o ρ σ H → va_S (mA o ρ) s.heap H locs → lv_has ls 5 [(0, .ref o), (2, .int x2), (3, .int x3), (4, .int x4)] → W p l e R s m args below meth c H locs 0 0 QQ (F0 m 5 ls []) := by
    intro x2 n5
    induction n5 with
    | zero => intro σ x3 x4 hw; exact hw.elim
    | succ n5 ih5 =>
      intro σ x3 x4 hw H locs ls hR hS hl
      rw [wM_laysTrial_l5] at hw
      refine lv_iload hx hb dX2_laysTrial_5 (lv_at hl 3 rfl) ?_
      refine lv_bipush (v := 9) hx hb dX2_laysTrial_7 (by decide) ?_
      refine lv_icmp_ge (tgt := 58) hx hb dX2_laysTrial_9 (by decide) (fun c_9 => ?_) (fun c_9 => ?_)
      · have hw := hw.1 c_9
        exact hret _ _ _ _ _ hw hR hS dX2_laysTrial_58
      · have hw := hw.2 c_9
        refine lv_aload_n hx hb dX2_laysTrial_12 rfl (lv_at hl 0 rfl) ?_
        refine mg_16 hx hb hts hown hE hR dX2_laysTrial_13 ?_
        refine lv_iload hx hb dX2_laysTrial_16 (lv_at hl 3 rfl) ?_
        refine lv_iload hx hb dX2_laysTrial_18 (lv_at hl 3 rfl) ?_
        refine lv_iload_n hx hb dX2_laysTrial_20 rfl (lv_at hl 1 rfl) ?_
        obtain ⟨hg, hw⟩ := hw
        have hK21 : ∀ (y21_0 : Int32), y21_0 = (if x2 ≤ x4 then (if x4 = x2 then 1 else 0) else (x3 - x3 / (mgi σ 0) * (mgi σ 0))) → ∀ (ls : Array Slot), lv_has ls 5 [(0, .ref o), (2, .int x2), (3, .int x3), (4, .int x4)] → W p l e R s m args below meth c H locs 0 0 QQ (F0 m 44 ls [.int y21_0, .int x4, .ref (ρ 16)]) := by
          intro y21_0 e_y21_0 ls hl
          have hw := hw y21_0 e_y21_0
          obtain ⟨hi_44, hw⟩ := hw
          refine mst_16 hx hb hE hap hR hS hi_44 dX2_laysTrial_44 (fun σ44 e_σ44 H locs hR hS => ?_)
          have hw := hw σ44 e_σ44
          clear e_σ44
          refine lv_iload_n hx hb dX2_laysTrial_45 rfl (lv_at hl 2 rfl) ?_
          refine lv_aload_n hx hb dX2_laysTrial_46 rfl (lv_at hl 0 rfl) ?_
          refine mg_0 hx hb hts hown hE hR dX2_laysTrial_47 ?_
          obtain ⟨hz_50, hw⟩ := hw
          refine lv_idiv hx hb dX2_laysTrial_50 hz_50 ?_
          refine lv_istore_n (lv' := [(3, .int (x3 / (mgi σ44 0))), (0, .ref o), (2, .int x2), (4, .int x4)]) hx hb dX2_laysTrial_51 rfl hl (by decide) rfl (fun ls hl => ?_)
          refine lv_iinc (k := 3) (lv' := [(4, .int (x4 + 1)), (3, .int (x3 / (mgi σ44 0))), (0, .ref o), (2, .int x2)]) hx hb dX2_laysTrial_52 hl rfl (congrArg (x4 + ·) (by decide : Int32.ofInt 1 = 1)) (by decide) rfl (fun ls hl => ?_)
          refine lv_goto (tgt := 5) hx hb dX2_laysTrial_55 (by decide) ?_
          exact ih5 σ44 (x3 / (mgi σ44 0)) (x4 + 1) hw H locs ls hR hS (lv_sub hl [2, 3, 1, 0] rfl)
        refine lv_icmp_ge (tgt := 33) hx hb dX2_laysTrial_21 (by decide) (fun c_21 => ?_) (fun c_21 => ?_)
        · have hg := hg.1 c_21
          refine lv_iload hx hb dX2_laysTrial_33 (lv_at hl 3 rfl) ?_
          refine lv_iload_n hx hb dX2_laysTrial_35 rfl (lv_at hl 1 rfl) ?_
          refine lv_icmp_ne (tgt := 43) hx hb dX2_laysTrial_36 (by decide) (fun c_36 => ?_) (fun c_36 => ?_)
          · refine lv_iconst (v := 0) hx hb dX2_laysTrial_43 (by decide) ?_
            exact hK21 _ ((if_neg c_36).symm.trans (if_pos c_21).symm) ls (lv_sub hl [0, 1, 2, 3] rfl)
          · refine lv_iconst (v := 1) hx hb dX2_laysTrial_39 (by decide) ?_
            refine lv_goto (tgt := 44) hx hb dX2_laysTrial_40 (by decide) ?_
            exact hK21 _ ((if_pos c_36).symm.trans (if_pos c_21).symm) ls (lv_sub hl [0, 1, 2, 3] rfl)
        · have hg := hg.2 c_21
          refine lv_iload_n hx hb dX2_laysTrial_24 rfl (lv_at hl 2 rfl) ?_
          refine lv_aload_n hx hb dX2_laysTrial_25 rfl (lv_at hl 0 rfl) ?_
          refine mg_0 hx hb hts hown hE hR dX2_laysTrial_26 ?_
          obtain ⟨hz_29, hg⟩ := hg
          refine lv_irem hx hb dX2_laysTrial_29 hz_29 ?_
          refine lv_goto (tgt := 44) hx hb dX2_laysTrial_30 (by decide) ?_
          exact hK21 _ (if_neg c_21).symm ls (lv_sub hl [0, 1, 2, 3] rfl)
  intro H ls hR hS hl
  have hl : lv_has ls 5 [(0, .ref o), (1, .int x1), (2, .int x2)] := hl
  generalize ([] : List Loc) = locs at hS ⊢
  unfold wM_laysTrial at hw
  refine lv_iload_n hx hb dX2_laysTrial_0 rfl (lv_at hl 1 rfl) ?_
  refine lv_istore_n (lv' := [(3, .int x1), (0, .ref o), (1, .int x1), (2, .int x2)]) hx hb dX2_laysTrial_1 rfl hl (by decide) rfl (fun ls hl => ?_)
  refine lv_iconst (v := 0) hx hb dX2_laysTrial_2 (by decide) ?_
  refine lv_istore (lv' := [(4, .int 0), (3, .int x1), (0, .ref o), (1, .int x1), (2, .int x2)]) hx hb dX2_laysTrial_3 hl (by decide) rfl (fun ls hl => ?_)
  obtain ⟨n5, hw⟩ := hw
  exact hL5 x2 n5 σ x1 (0 : Int32) hw H locs ls hR hS (lv_sub hl [2, 4, 1, 0] rfl)
def wM_divides_j178  (Q : Int32 → mS → Prop) (σ : mS) (x1 : Int32) (x2 : Int32)  : Prop :=
  ∀ y184_0 : Int32, y184_0 = (if x2 = 0 then 0 else x1) → ∀ σ193 : mS, σ193 = mpi σ 11 ((mgi σ 11) - y184_0) → (x2 = 0 ∨ x2 = 1) ∧ Q x2 σ193
def wM_divides_l132  (Q : Int32 → mS → Prop)  (x1 : Int32) (x2 : Int32) : Nat → mS → Int32 → Prop
  | 0, _, _ => False
  | n + 1, σ, x3 => (((mgi σ 11) < x3 → (wM_divides_j178  Q σ x1 x2)) ∧ (¬ (mgi σ 11) < x3 → ((x2 = 0 → (wM_divides_j178  Q σ x1 x2)) ∧ (¬ x2 = 0 → (((mgi σ 11) < (x3 + x1) → True) ∧ (¬ (mgi σ 11) < (x3 + x1) → (vp_in (x3 + x1) 9 ∧ True))) ∧ (∀ y156_0 : Int32, y156_0 = (if (mgi σ 11) < (x3 + x1) then 0 else (mga σ 17 (x3 + x1).toNatClampNeg)) → vp_in x3 9 ∧ (∀ σ171 : mS, σ171 = mpa σ 10 x3.toNatClampNeg y156_0 → wM_divides_l132  Q  x1 x2 n σ171 (x3 + 1)))))))
def wM_divides_l100  (Q : Int32 → mS → Prop) (σ : mS) (x1 : Int32) : Nat → Int32 → Int32 → Prop
  | 0, _, _ => False
  | n + 1, x2, x3 => ((x1 ≤ x3 → (∃ k132 : Nat, wM_divides_l132  Q  x1 x2 k132 σ (0 : Int32))) ∧ (¬ x1 ≤ x3 → ((x2 = 0 → True) ∧ (¬ x2 = 0 → (vp_in x3 9 ∧ True))) ∧ (∀ y106_0 : Int32, y106_0 = (if x2 = 0 then 0 else (if (mga σ 17 x3.toNatClampNeg) = 0 then 1 else 0)) → wM_divides_l100  Q σ x1 n y106_0 (x3 + 1))))
def wM_divides_l40 (rec33 : mS → Int32 → Prop) (Q : Int32 → mS → Prop)  (x1 : Int32) (x2 : Int32) : Nat → mS → Int32 → Prop
  | 0, _, _ => False
  | n + 1, σ, x3 => ((x1 ≤ x3 → rec33 σ (x2 + (-1))) ∧ (¬ x1 ≤ x3 → vp_in ((x2 - x1) + x3) 9 ∧ (vp_in x2 9 ∧ (vp_in x3 9 ∧ (wM_residue σ ((mga σ 17 ((x2 - x1) + x3).toNatClampNeg) - ((mga σ 17 x2.toNatClampNeg) * (mga σ 16 x3.toNatClampNeg))).toInt64 (fun r80 => vp_in ((x2 - x1) + x3) 9 ∧ (∀ σ83 : mS, σ83 = mpa σ 17 ((x2 - x1) + x3).toNatClampNeg r80 → wM_divides_l40 rec33 Q  x1 x2 n σ83 (x3 + 1))))))))
def wM_divides_l33  (Q : Int32 → mS → Prop)  (x1 : Int32) : Nat → mS → Int32 → Prop
  | 0, _, _ => False
  | n + 1, σ, x2 => ((x2 < x1 → (∃ k100 : Nat, wM_divides_l100  Q σ x1 k100 (1 : Int32) (0 : Int32))) ∧ (¬ x2 < x1 → (∃ k40 : Nat, wM_divides_l40 (fun z z2 => wM_divides_l33  Q  x1 n z z2) Q  x1 x2 k40 σ (0 : Int32))))
def wM_divides_l2  (Q : Int32 → mS → Prop)  (x1 : Int32) : Nat → mS → Int32 → Prop
  | 0, _, _ => False
  | n + 1, σ, x2 => (((mgi σ 11) < x2 → (∃ k33 : Nat, wM_divides_l33  Q  x1 k33 σ (mgi σ 11))) ∧ (¬ (mgi σ 11) < x2 → vp_in x2 9 ∧ (vp_in x2 9 ∧ (∀ σ21 : mS, σ21 = mpa σ 17 x2.toNatClampNeg (mga σ 10 x2.toNatClampNeg) → wM_divides_l2  Q  x1 n σ21 (x2 + 1)))))
def wM_divides (σ : mS) (x1 : Int32) (Q : Int32 → mS → Prop) : Prop :=
  (∃ k2 : Nat, wM_divides_l2  Q  x1 k2 σ (0 : Int32))
set_option maxHeartbeats 4000000 in
theorem mM_divides (l : Launch) (G : mG) (o : Nat) (ρ : Nat → Nat) (hap : mAp o ρ) (σ : mS) (x1 : Int32) (Q : Int32 → mS → Prop) (hw : wM_divides σ x1 Q) : mMetI l G yX2_divides (ws_ yX2_divides cX2_divides 4 (some .boolean)) 1 23 o ρ [.ref o, .int x1] σ Q := by
  refine mo_Z plain2 rfl (Nat.le_of_ble_eq_true rfl) ?_
  intro p e s R m args below meth c QQ X hRf hRl hret
  obtain ⟨hx, hb, hml, hown, hts, hE⟩ := id X
  have hJ178 : ∀ (σ : mS) (x1 : Int32) (x2 : Int32), wM_divides_j178  Q σ x1 x2 → ∀ (H : Heap) (locs : List Loc) (ls : Array Slot), mR G o ρ σ H → va_S (mA o ρ) s.heap H locs → lv_has ls 4 [(0, .ref o), (1, .int x1), (2, .int x2)] → W p l e R s m args below meth c H locs 0 0 QQ (F0 m 178 ls []) := by
    intro σ x1 x2 hw H locs ls hR hS hl
    unfold wM_divides_j178 at hw
    refine lv_aload_n hx hb dX2_divides_178 rfl (lv_at hl 0 rfl) ?_
    refine lv_dup hx hb dX2_divides_179 rfl ?_
    refine mg_11 hx hb hts hown hE hR dX2_divides_180 ?_
    refine lv_iload_n hx hb dX2_divides_183 rfl (lv_at hl 2 rfl) ?_
    have hK184 : ∀ (y184_0 : Int32), y184_0 = (if x2 = 0 then 0 else x1) → ∀ (ls : Array Slot), lv_has ls 4 [(2, .int x2)] → W p l e R s m args below meth c H locs 0 0 QQ (F0 m 192 ls [.int y184_0, .int (mgi σ 11), .ref o]) := by
      intro y184_0 e_y184_0 ls hl
      have hw := hw y184_0 e_y184_0
      refine lv_isub hx hb dX2_divides_192 ?_
      refine mp_11 hx hb hts hown hE hap hR hS dX2_divides_193 (fun σ193 e_σ193 H locs hR hS => ?_)
      have hw := hw σ193 e_σ193
      clear e_σ193
      refine lv_iload_n hx hb dX2_divides_196 rfl (lv_at hl 0 rfl) ?_
      obtain ⟨hz, hw⟩ := hw
      exact hret _ _ _ _ _ _ hw hz hR hS dX2_divides_197
    refine lv_if_eq (tgt := 191) hx hb dX2_divides_184 (by decide) (fun c_184 => ?_) (fun c_184 => ?_)
    · refine lv_iconst (v := 0) hx hb dX2_divides_191 (by decide) ?_
      exact hK184 _ (if_pos c_184).symm ls (lv_sub hl [2] rfl)
    · refine lv_iload_n hx hb dX2_divides_187 rfl (lv_at hl 1 rfl) ?_
      refine lv_goto (tgt := 192) hx hb dX2_divides_188 (by decide) ?_
      exact hK184 _ (if_neg c_184).symm ls (lv_sub hl [2] rfl)
  have hL132 : ∀ (x1 : Int32) (x2 : Int32) (n132 : Nat) (σ : mS) (x3 : Int32), wM_divides_l132  Q  x1 x2 n132 σ x3 → ∀ (H : Heap) (locs : List Loc) (ls : Array Slot), mR G o ρ σ H → va_S (mA o ρ) s.heap H locs → lv_has ls 4 [(0, .ref o), (1, .int x1), (2, .int x2), (3, .int x3)] → W p l e R s m args below meth c H locs 0 0 QQ (F0 m 132 ls []) := by
    intro x1 x2 n132
    induction n132 with
    | zero => intro σ x3 hw; exact hw.elim
    | succ n132 ih132 =>
      intro σ x3 hw H locs ls hR hS hl
      rw [wM_divides_l132] at hw
      refine lv_iload_n hx hb dX2_divides_132 rfl (lv_at hl 3 rfl) ?_
      refine lv_aload_n hx hb dX2_divides_133 rfl (lv_at hl 0 rfl) ?_
      refine mg_11 hx hb hts hown hE hR dX2_divides_134 ?_
      refine lv_icmp_gt (tgt := 178) hx hb dX2_divides_137 (by decide) (fun c_137 => ?_) (fun c_137 => ?_)
      · have hw := hw.1 c_137
        exact hJ178 σ x1 x2 hw H locs ls hR hS (lv_sub hl [0, 1, 2] rfl)
      · have hw := hw.2 c_137
        refine lv_iload_n hx hb dX2_divides_140 rfl (lv_at hl 2 rfl) ?_
        refine lv_if_eq (tgt := 178) hx hb dX2_divides_141 (by decide) (fun c_141 => ?_) (fun c_141 => ?_)
        · have hw := hw.1 c_141
          exact hJ178 σ x1 x2 hw H locs ls hR hS (lv_sub hl [0, 1, 2] rfl)
        · have hw := hw.2 c_141
          refine lv_aload_n hx hb dX2_divides_144 rfl (lv_at hl 0 rfl) ?_
          refine mg_10 hx hb hts hown hE hR dX2_divides_145 ?_
          refine lv_iload_n hx hb dX2_divides_148 rfl (lv_at hl 3 rfl) ?_
          refine lv_iload_n hx hb dX2_divides_149 rfl (lv_at hl 3 rfl) ?_
          refine lv_iload_n hx hb dX2_divides_150 rfl (lv_at hl 1 rfl) ?_
          refine lv_iadd hx hb dX2_divides_151 ?_
          refine lv_aload_n hx hb dX2_divides_152 rfl (lv_at hl 0 rfl) ?_
          refine mg_11 hx hb hts hown hE hR dX2_divides_153 ?_
          obtain ⟨hg, hw⟩ := hw
          have hK156 : ∀ (y156_0 : Int32), y156_0 = (if (mgi σ 11) < (x3 + x1) then 0 else (mga σ 17 (x3 + x1).toNatClampNeg)) → ∀ (ls : Array Slot), lv_has ls 4 [(0, .ref o), (1, .int x1), (2, .int x2), (3, .int x3)] → W p l e R s m args below meth c H locs 0 0 QQ (F0 m 171 ls [.int y156_0, .int x3, .ref (ρ 10)]) := by
            intro y156_0 e_y156_0 ls hl
            have hw := hw y156_0 e_y156_0
            obtain ⟨hi_171, hw⟩ := hw
            refine mst_10 hx hb hE hap hR hS hi_171 dX2_divides_171 (fun σ171 e_σ171 H locs hR hS => ?_)
            have hw := hw σ171 e_σ171
            clear e_σ171
            refine lv_iinc (k := 3) (lv' := [(3, .int (x3 + 1)), (0, .ref o), (1, .int x1), (2, .int x2)]) hx hb dX2_divides_172 hl rfl (congrArg (x3 + ·) (by decide : Int32.ofInt 1 = 1)) (by decide) rfl (fun ls hl => ?_)
            refine lv_goto (tgt := 132) hx hb dX2_divides_175 (by decide) ?_
            exact ih132 σ171 (x3 + 1) hw H locs ls hR hS (lv_sub hl [1, 2, 3, 0] rfl)
          refine lv_icmp_gt (tgt := 170) hx hb dX2_divides_156 (by decide) (fun c_156 => ?_) (fun c_156 => ?_)
          · have hg := hg.1 c_156
            refine lv_iconst (v := 0) hx hb dX2_divides_170 (by decide) ?_
            exact hK156 _ (if_pos c_156).symm ls (lv_sub hl [0, 1, 2, 3] rfl)
          · have hg := hg.2 c_156
            refine lv_aload_n hx hb dX2_divides_159 rfl (lv_at hl 0 rfl) ?_
            refine mg_17 hx hb hts hown hE hR dX2_divides_160 ?_
            refine lv_iload_n hx hb dX2_divides_163 rfl (lv_at hl 3 rfl) ?_
            refine lv_iload_n hx hb dX2_divides_164 rfl (lv_at hl 1 rfl) ?_
            refine lv_iadd hx hb dX2_divides_165 ?_
            obtain ⟨hi_166, hg⟩ := hg
            refine ma_17 hx hb hE hR hi_166 dX2_divides_166 ?_
            refine lv_goto (tgt := 171) hx hb dX2_divides_167 (by decide) ?_
            exact hK156 _ (if_neg c_156).symm ls (lv_sub hl [0, 1, 2, 3] rfl)
  have hL100 : ∀ (σ : mS) (x1 : Int32) (n100 : Nat) (x2 : Int32) (x3 : Int32), wM_divides_l100  Q σ x1 n100 x2 x3 → ∀ (H : Heap) (locs : List Loc) (ls : Array Slot), mR G o ρ σ H → va_S (mA o ρ) s.heap H locs → lv_has ls 4 [(0, .ref o), (1, .int x1), (2, .int x2), (3, .int x3)] → W p l e R s m args below meth c H locs 0 0 QQ (F0 m 100 ls []) := by
    intro σ x1 n100
    induction n100 with
    | zero => intro x2 x3 hw; exact hw.elim
    | succ n100 ih100 =>
      intro x2 x3 hw H locs ls hR hS hl
      rw [wM_divides_l100] at hw
      refine lv_iload_n hx hb dX2_divides_100 rfl (lv_at hl 3 rfl) ?_
      refine lv_iload_n hx hb dX2_divides_101 rfl (lv_at hl 1 rfl) ?_
      refine lv_icmp_ge (tgt := 130) hx hb dX2_divides_102 (by decide) (fun c_102 => ?_) (fun c_102 => ?_)
      · have hw := hw.1 c_102
        refine lv_iconst (v := 0) hx hb dX2_divides_130 (by decide) ?_
        refine lv_istore_n (lv' := [(3, .int 0), (0, .ref o), (1, .int x1), (2, .int x2)]) hx hb dX2_divides_131 rfl hl (by decide) rfl (fun ls hl => ?_)
        obtain ⟨n132, hw⟩ := hw
        exact hL132 x1 x2 n132 σ (0 : Int32) hw H locs ls hR hS (lv_sub hl [1, 2, 3, 0] rfl)
      · have hw := hw.2 c_102
        refine lv_iload_n hx hb dX2_divides_105 rfl (lv_at hl 2 rfl) ?_
        obtain ⟨hg, hw⟩ := hw
        have hK106 : ∀ (y106_0 : Int32), y106_0 = (if x2 = 0 then 0 else (if (mga σ 17 x3.toNatClampNeg) = 0 then 1 else 0)) → ∀ (ls : Array Slot), lv_has ls 4 [(0, .ref o), (1, .int x1), (3, .int x3)] → W p l e R s m args below meth c H locs 0 0 QQ (F0 m 123 ls [.int y106_0]) := by
          intro y106_0 e_y106_0 ls hl
          have hw := hw y106_0 e_y106_0
          refine lv_istore_n (lv' := [(2, .int y106_0), (0, .ref o), (1, .int x1), (3, .int x3)]) hx hb dX2_divides_123 rfl hl (by decide) rfl (fun ls hl => ?_)
          refine lv_iinc (k := 3) (lv' := [(3, .int (x3 + 1)), (2, .int y106_0), (0, .ref o), (1, .int x1)]) hx hb dX2_divides_124 hl rfl (congrArg (x3 + ·) (by decide : Int32.ofInt 1 = 1)) (by decide) rfl (fun ls hl => ?_)
          refine lv_goto (tgt := 100) hx hb dX2_divides_127 (by decide) ?_
          exact ih100 y106_0 (x3 + 1) hw H locs ls hR hS (lv_sub hl [2, 3, 1, 0] rfl)
        refine lv_if_eq (tgt := 122) hx hb dX2_divides_106 (by decide) (fun c_106 => ?_) (fun c_106 => ?_)
        · have hg := hg.1 c_106
          refine lv_iconst (v := 0) hx hb dX2_divides_122 (by decide) ?_
          exact hK106 _ (if_pos c_106).symm ls (lv_sub hl [0, 1, 3] rfl)
        · have hg := hg.2 c_106
          refine lv_aload_n hx hb dX2_divides_109 rfl (lv_at hl 0 rfl) ?_
          refine mg_17 hx hb hts hown hE hR dX2_divides_110 ?_
          refine lv_iload_n hx hb dX2_divides_113 rfl (lv_at hl 3 rfl) ?_
          obtain ⟨hi_114, hg⟩ := hg
          refine ma_17 hx hb hE hR hi_114 dX2_divides_114 ?_
          refine lv_if_ne (tgt := 122) hx hb dX2_divides_115 (by decide) (fun c_115 => ?_) (fun c_115 => ?_)
          · refine lv_iconst (v := 0) hx hb dX2_divides_122 (by decide) ?_
            exact hK106 _ ((if_neg c_115).symm.trans (if_neg c_106).symm) ls (lv_sub hl [0, 1, 3] rfl)
          · refine lv_iconst (v := 1) hx hb dX2_divides_118 (by decide) ?_
            refine lv_goto (tgt := 123) hx hb dX2_divides_119 (by decide) ?_
            exact hK106 _ ((if_pos c_115).symm.trans (if_neg c_106).symm) ls (lv_sub hl [0, 1, 3] rfl)
  have hL33 : ∀ (x1 : Int32) (n33 : Nat) (σ : mS) (x2 : Int32), wM_divides_l33  Q  x1 n33 σ x2 → ∀ (H : Heap) (locs : List Loc) (ls : Array Slot), mR G o ρ σ H → va_S (mA o ρ) s.heap H locs → lv_has ls 4 [(0, .ref o), (1, .int x1), (2, .int x2)] → W p l e R s m args below meth c H locs 0 0 QQ (F0 m 33 ls []) := by
    intro x1 n33
    induction n33 with
    | zero => intro σ x2 hw; exact hw.elim
    | succ n33 ih33 =>
      have hL40 : ∀ (x2 : Int32) (n40 : Nat) (σ : mS) (x3 : Int32), wM_divides_l40 (wM_divides_l33  Q  x1 n33) Q  x1 x2 n40 σ x3 → ∀ (H : Heap) (locs : List Loc) (ls : Array Slot), mR G o ρ σ H → va_S (mA o ρ) s.heap H locs → lv_has ls 4 [(0, .ref o), (1, .int x1), (2, .int x2), (3, .int x3)] → W p l e R s m args below meth c H locs 0 0 QQ (F0 m 40 ls []) := by
        intro x2 n40
        induction n40 with
        | zero => intro σ x3 hw; exact hw.elim
        | succ n40 ih40 =>
          intro σ x3 hw H locs ls hR hS hl
          rw [wM_divides_l40] at hw
          refine lv_iload_n hx hb dX2_divides_40 rfl (lv_at hl 3 rfl) ?_
          refine lv_iload_n hx hb dX2_divides_41 rfl (lv_at hl 1 rfl) ?_
          refine lv_icmp_ge (tgt := 90) hx hb dX2_divides_42 (by decide) (fun c_42 => ?_) (fun c_42 => ?_)
          · have hw := hw.1 c_42
            refine lv_iinc (k := 2) (lv' := [(2, .int (x2 + (-1))), (0, .ref o), (1, .int x1), (3, .int x3)]) hx hb dX2_divides_90 hl rfl (congrArg (x2 + ·) (by decide : Int32.ofInt (-1) = (-1))) (by decide) rfl (fun ls hl => ?_)
            refine lv_goto (tgt := 33) hx hb dX2_divides_93 (by decide) ?_
            exact ih33 σ (x2 + (-1)) hw H locs ls hR hS (lv_sub hl [1, 2, 0] rfl)
          · have hw := hw.2 c_42
            refine lv_aload_n hx hb dX2_divides_45 rfl (lv_at hl 0 rfl) ?_
            refine mg_17 hx hb hts hown hE hR dX2_divides_46 ?_
            refine lv_iload_n hx hb dX2_divides_49 rfl (lv_at hl 2 rfl) ?_
            refine lv_iload_n hx hb dX2_divides_50 rfl (lv_at hl 1 rfl) ?_
            refine lv_isub hx hb dX2_divides_51 ?_
            refine lv_iload_n hx hb dX2_divides_52 rfl (lv_at hl 3 rfl) ?_
            refine lv_iadd hx hb dX2_divides_53 ?_
            refine lv_aload_n hx hb dX2_divides_54 rfl (lv_at hl 0 rfl) ?_
            refine lv_aload_n hx hb dX2_divides_55 rfl (lv_at hl 0 rfl) ?_
            refine mg_17 hx hb hts hown hE hR dX2_divides_56 ?_
            refine lv_iload_n hx hb dX2_divides_59 rfl (lv_at hl 2 rfl) ?_
            refine lv_iload_n hx hb dX2_divides_60 rfl (lv_at hl 1 rfl) ?_
            refine lv_isub hx hb dX2_divides_61 ?_
            refine lv_iload_n hx hb dX2_divides_62 rfl (lv_at hl 3 rfl) ?_
            refine lv_iadd hx hb dX2_divides_63 ?_
            obtain ⟨hi_64, hw⟩ := hw
            refine ma_17 hx hb hE hR hi_64 dX2_divides_64 ?_
            refine lv_aload_n hx hb dX2_divides_65 rfl (lv_at hl 0 rfl) ?_
            refine mg_17 hx hb hts hown hE hR dX2_divides_66 ?_
            refine lv_iload_n hx hb dX2_divides_69 rfl (lv_at hl 2 rfl) ?_
            obtain ⟨hi_70, hw⟩ := hw
            refine ma_17 hx hb hE hR hi_70 dX2_divides_70 ?_
            refine lv_aload_n hx hb dX2_divides_71 rfl (lv_at hl 0 rfl) ?_
            refine mg_16 hx hb hts hown hE hR dX2_divides_72 ?_
            refine lv_iload_n hx hb dX2_divides_75 rfl (lv_at hl 3 rfl) ?_
            obtain ⟨hi_76, hw⟩ := hw
            refine ma_16 hx hb hE hR hi_76 dX2_divides_76 ?_
            refine lv_imul hx hb dX2_divides_77 ?_
            refine lv_isub hx hb dX2_divides_78 ?_
            refine lv_i2l hx hb dX2_divides_79 rfl ?_
            refine mc_vir (As := [.long ((mga σ 17 ((x2 - x1) + x3).toNatClampNeg) - ((mga σ 17 x2.toNatClampNeg) * (mga σ 16 x3.toNatClampNeg))).toInt64]) (rest := [.int ((x2 - x1) + x3), .ref (ρ 17)]) X (mM_residue l G o ρ hap σ ((mga σ 17 ((x2 - x1) + x3).toNatClampNeg) - ((mga σ 17 x2.toNatClampNeg) * (mga σ 16 x3.toNatClampNeg))).toInt64 _ hw) (lw_V q2315 q2317 qs59 q_ini2 q2318) hd2_residue (mm_le hRf rfl) (mm_le hRl rfl) rfl rfl (Nat.le_of_ble_eq_true rfl) dX2_divides_80 hR hS hl.1 (fun r80 H locs hw hR hS => ?_)
            obtain ⟨hi_83, hw⟩ := hw
            refine mst_17 hx hb hE hap hR hS hi_83 dX2_divides_83 (fun σ83 e_σ83 H locs hR hS => ?_)
            have hw := hw σ83 e_σ83
            clear e_σ83
            refine lv_iinc (k := 3) (lv' := [(3, .int (x3 + 1)), (0, .ref o), (1, .int x1), (2, .int x2)]) hx hb dX2_divides_84 hl rfl (congrArg (x3 + ·) (by decide : Int32.ofInt 1 = 1)) (by decide) rfl (fun ls hl => ?_)
            refine lv_goto (tgt := 40) hx hb dX2_divides_87 (by decide) ?_
            exact ih40 σ83 (x3 + 1) hw H locs ls hR hS (lv_sub hl [1, 2, 3, 0] rfl)
      intro σ x2 hw H locs ls hR hS hl
      rw [wM_divides_l33] at hw
      refine lv_iload_n hx hb dX2_divides_33 rfl (lv_at hl 2 rfl) ?_
      refine lv_iload_n hx hb dX2_divides_34 rfl (lv_at hl 1 rfl) ?_
      refine lv_icmp_lt (tgt := 96) hx hb dX2_divides_35 (by decide) (fun c_35 => ?_) (fun c_35 => ?_)
      · have hw := hw.1 c_35
        refine lv_iconst (v := 1) hx hb dX2_divides_96 (by decide) ?_
        refine lv_istore_n (lv' := [(2, .int 1), (0, .ref o), (1, .int x1)]) hx hb dX2_divides_97 rfl hl (by decide) rfl (fun ls hl => ?_)
        refine lv_iconst (v := 0) hx hb dX2_divides_98 (by decide) ?_
        refine lv_istore_n (lv' := [(3, .int 0), (2, .int 1), (0, .ref o), (1, .int x1)]) hx hb dX2_divides_99 rfl hl (by decide) rfl (fun ls hl => ?_)
        obtain ⟨n100, hw⟩ := hw
        exact hL100 σ x1 n100 (1 : Int32) (0 : Int32) hw H locs ls hR hS (lv_sub hl [2, 3, 1, 0] rfl)
      · have hw := hw.2 c_35
        refine lv_iconst (v := 0) hx hb dX2_divides_38 (by decide) ?_
        refine lv_istore_n (lv' := [(3, .int 0), (0, .ref o), (1, .int x1), (2, .int x2)]) hx hb dX2_divides_39 rfl hl (by decide) rfl (fun ls hl => ?_)
        obtain ⟨n40, hw⟩ := hw
        exact hL40 x2 n40 σ (0 : Int32) hw H locs ls hR hS (lv_sub hl [1, 2, 3, 0] rfl)
  have hL2 : ∀ (x1 : Int32) (n2 : Nat) (σ : mS) (x2 : Int32), wM_divides_l2  Q  x1 n2 σ x2 → ∀ (H : Heap) (locs : List Loc) (ls : Array Slot), mR G o ρ σ H → va_S (mA o ρ) s.heap H locs → lv_has ls 4 [(0, .ref o), (1, .int x1), (2, .int x2)] → W p l e R s m args below meth c H locs 0 0 QQ (F0 m 2 ls []) := by
    intro x1 n2
    induction n2 with
    | zero => intro σ x2 hw; exact hw.elim
    | succ n2 ih2 =>
      intro σ x2 hw H locs ls hR hS hl
      rw [wM_divides_l2] at hw
      refine lv_iload_n hx hb dX2_divides_2 rfl (lv_at hl 2 rfl) ?_
      refine lv_aload_n hx hb dX2_divides_3 rfl (lv_at hl 0 rfl) ?_
      refine mg_11 hx hb hts hown hE hR dX2_divides_4 ?_
      refine lv_icmp_gt (tgt := 28) hx hb dX2_divides_7 (by decide) (fun c_7 => ?_) (fun c_7 => ?_)
      · have hw := hw.1 c_7
        refine lv_aload_n hx hb dX2_divides_28 rfl (lv_at hl 0 rfl) ?_
        refine mg_11 hx hb hts hown hE hR dX2_divides_29 ?_
        refine lv_istore_n (lv' := [(2, .int (mgi σ 11)), (0, .ref o), (1, .int x1)]) hx hb dX2_divides_32 rfl hl (by decide) rfl (fun ls hl => ?_)
        obtain ⟨n33, hw⟩ := hw
        exact hL33 x1 n33 σ (mgi σ 11) hw H locs ls hR hS (lv_sub hl [1, 2, 0] rfl)
      · have hw := hw.2 c_7
        refine lv_aload_n hx hb dX2_divides_10 rfl (lv_at hl 0 rfl) ?_
        refine mg_17 hx hb hts hown hE hR dX2_divides_11 ?_
        refine lv_iload_n hx hb dX2_divides_14 rfl (lv_at hl 2 rfl) ?_
        refine lv_aload_n hx hb dX2_divides_15 rfl (lv_at hl 0 rfl) ?_
        refine mg_10 hx hb hts hown hE hR dX2_divides_16 ?_
        refine lv_iload_n hx hb dX2_divides_19 rfl (lv_at hl 2 rfl) ?_
        obtain ⟨hi_20, hw⟩ := hw
        refine ma_10 hx hb hE hR hi_20 dX2_divides_20 ?_
        obtain ⟨hi_21, hw⟩ := hw
        refine mst_17 hx hb hE hap hR hS hi_21 dX2_divides_21 (fun σ21 e_σ21 H locs hR hS => ?_)
        have hw := hw σ21 e_σ21
        clear e_σ21
        refine lv_iinc (k := 2) (lv' := [(2, .int (x2 + 1)), (0, .ref o), (1, .int x1)]) hx hb dX2_divides_22 hl rfl (congrArg (x2 + ·) (by decide : Int32.ofInt 1 = 1)) (by decide) rfl (fun ls hl => ?_)
        refine lv_goto (tgt := 2) hx hb dX2_divides_25 (by decide) ?_
        exact ih2 σ21 (x2 + 1) hw H locs ls hR hS (lv_sub hl [1, 2, 0] rfl)
  intro H ls hR hS hl
  have hl : lv_has ls 4 [(0, .ref o), (1, .int x1)] := hl
  generalize ([] : List Loc) = locs at hS ⊢
  unfold wM_divides at hw
  refine lv_iconst (v := 0) hx hb dX2_divides_0 (by decide) ?_
  refine lv_istore_n (lv' := [(2, .int 0), (0, .ref o), (1, .int x1)]) hx hb dX2_divides_1 rfl hl (by decide) rfl (fun ls hl => ?_)
  obtain ⟨n2, hw⟩ := hw
  exact hL2 x1 n2 σ (0 : Int32) hw H locs ls hR hS (lv_sub hl [1, 2, 0] rfl)
