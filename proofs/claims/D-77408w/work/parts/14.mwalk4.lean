/-! the model's methods: predicates and walks, printed (part 4) -/
set_option maxRecDepth 100000
def wM_tree (σ : mS) (x1 : Int32) (Q : Int32 → Prop) : Prop :=
  wM_in (x1).toInt64 (0 : Int64) (7 : Int64) (fun r6 => ((r6 = 0 → Q ((-1) : Int32)) ∧ (¬ r6 = 0 → (((mgi σ 18) = 0 → Q ((-2) : Int32)) ∧ (¬ (mgi σ 18) = 0 → wM_asked σ x1 (fun r23 => Q r23))))))
set_option maxHeartbeats 4000000 in
theorem mM_tree (l : Launch) (G : mG) (o : Nat) (ρ : Nat → Nat) (hap : mAp o ρ) (σ : mS) (x1 : Int32) (Q : Int32 → Prop) (hw : wM_tree σ x1 Q) : mMetI l G yX2_tree (ws_ yX2_tree cX2_tree 2 (some .int)) 1 25 o ρ [.ref o, .int x1] σ (fun r τ => σ = τ ∧ Q r) := by
  refine mo_I plain2 rfl (Nat.le_of_ble_eq_true rfl) ?_
  intro p e s R m args below meth c QQ X hRf hRl hret
  obtain ⟨hx, hb, hml, hown, hts, hE⟩ := id X
  intro H ls hR hS hl
  have hl : lv_has ls 2 [(0, .ref o), (1, .int x1)] := hl
  generalize ([] : List Loc) = locs at hS ⊢
  unfold wM_tree at hw
  refine lv_iload_n hx hb dX2_tree_0 rfl (lv_at hl 1 rfl) ?_
  refine lv_i2l hx hb dX2_tree_1 rfl ?_
  refine lv_lconst (v := 0) hx hb dX2_tree_2 (by decide) ?_
  refine lv_ldc2 (v := 7) hx hb hown (hts _ q2466) dX2_tree_3 ?_
  refine mc_si (As := [.long (x1).toInt64, .long (0 : Int64), .long (7 : Int64)]) (rest := []) X (mM_in l (x1).toInt64 (0 : Int64) (7 : Int64) _ hw) (lw_S q2198 q2199 q_ini2 q2200) hd2_in (mm_le hRf rfl) (mm_le hRl rfl) rfl rfl (Nat.le_of_ble_eq_true rfl) dX2_tree_6 hR hS hl.1 (fun r6 H locs hw hR hS => ?_)
  refine lv_if_ne (tgt := 14) hx hb dX2_tree_9 (by decide) (fun c_9 => ?_) (fun c_9 => ?_)
  · have hw := hw.2 c_9
    refine lv_aload_n hx hb dX2_tree_14 rfl (lv_at hl 0 rfl) ?_
    refine mg_18 hx hb hts hown hE hR dX2_tree_15 ?_
    refine lv_if_eq (tgt := 29) hx hb dX2_tree_18 (by decide) (fun c_18 => ?_) (fun c_18 => ?_)
    · have hw := hw.1 c_18
      refine lv_bipush (v := (-2)) hx hb dX2_tree_29 (by decide) ?_
      exact hret _ _ _ _ _ _ ⟨rfl, hw⟩ hR hS dX2_tree_31
    · have hw := hw.2 c_18
      refine lv_aload_n hx hb dX2_tree_21 rfl (lv_at hl 0 rfl) ?_
      refine lv_iload_n hx hb dX2_tree_22 rfl (lv_at hl 1 rfl) ?_
      refine mc_vir (As := [.int x1]) (rest := []) X (mM_asked l G o ρ hap σ x1 _ hw) (lw_V q2467 q2469 qs94 q_ini2 q2470) hd2_asked (mm_le hRf rfl) (mm_le hRl rfl) rfl rfl (Nat.le_of_ble_eq_true rfl) dX2_tree_23 hR hS hl.1 (fun r23 H locs hw hR hS => ?_)
      refine lv_goto (tgt := 31) hx hb dX2_tree_26 (by decide) ?_
      exact hret _ _ _ _ _ _ ⟨rfl, hw⟩ hR hS dX2_tree_31
  · have hw := hw.1 c_9
    refine lv_iconst (v := (-1)) hx hb dX2_tree_12 (by decide) ?_
    exact hret _ _ _ _ _ _ ⟨rfl, hw⟩ hR hS dX2_tree_13
def wM_isKnot_j27  (Q : Int32 → Prop) (σ : mS)   : Prop :=
  Q (0 : Int32)
def wM_isKnot (σ : mS) (x1 : Int32) (Q : Int32 → Prop) : Prop :=
  (((mgi σ 18) = 0 → (wM_isKnot_j27  Q σ )) ∧ (¬ (mgi σ 18) = 0 → wM_in (x1).toInt64 (0 : Int64) ((mgi σ 21) - 1).toInt64 (fun r17 => ((r17 = 0 → (wM_isKnot_j27  Q σ )) ∧ (¬ r17 = 0 → Q (1 : Int32))))))
set_option maxHeartbeats 4000000 in
theorem mM_isKnot (l : Launch) (G : mG) (o : Nat) (ρ : Nat → Nat) (hap : mAp o ρ) (σ : mS) (x1 : Int32) (Q : Int32 → Prop) (hw : wM_isKnot σ x1 Q) : mMetI l G yX2_isKnot (ws_ yX2_isKnot cX2_isKnot 2 (some .boolean)) 1 25 o ρ [.ref o, .int x1] σ (fun r τ => σ = τ ∧ Q r) := by
  refine mo_Z plain2 rfl (Nat.le_of_ble_eq_true rfl) ?_
  intro p e s R m args below meth c QQ X hRf hRl hret
  obtain ⟨hx, hb, hml, hown, hts, hE⟩ := id X
  have hJ27 : wM_isKnot_j27  Q σ  → ∀ (H : Heap) (locs : List Loc) (ls : Array Slot), mR G o ρ σ H → va_S (mA o ρ) s.heap H locs → lv_has ls 2 [] → W p l e R s m args below meth c H locs 0 0 QQ (F0 m 27 ls []) := by
    intro  hw H locs ls hR hS hl
    unfold wM_isKnot_j27 at hw
    refine lv_iconst (v := 0) hx hb dX2_isKnot_27 (by decide) ?_
    exact hret _ _ _ _ _ _ ⟨rfl, hw⟩ (by decide) hR hS dX2_isKnot_28
  intro H ls hR hS hl
  have hl : lv_has ls 2 [(0, .ref o), (1, .int x1)] := hl
  generalize ([] : List Loc) = locs at hS ⊢
  unfold wM_isKnot at hw
  refine lv_aload_n hx hb dX2_isKnot_0 rfl (lv_at hl 0 rfl) ?_
  refine mg_18 hx hb hts hown hE hR dX2_isKnot_1 ?_
  refine lv_if_eq (tgt := 27) hx hb dX2_isKnot_4 (by decide) (fun c_4 => ?_) (fun c_4 => ?_)
  · have hw := hw.1 c_4
    exact hJ27  hw H locs ls hR hS (lv_sub hl [] rfl)
  · have hw := hw.2 c_4
    refine lv_iload_n hx hb dX2_isKnot_7 rfl (lv_at hl 1 rfl) ?_
    refine lv_i2l hx hb dX2_isKnot_8 rfl ?_
    refine lv_lconst (v := 0) hx hb dX2_isKnot_9 (by decide) ?_
    refine lv_aload_n hx hb dX2_isKnot_10 rfl (lv_at hl 0 rfl) ?_
    refine mg_21 hx hb hts hown hE hR dX2_isKnot_11 ?_
    refine lv_iconst (v := 1) hx hb dX2_isKnot_14 (by decide) ?_
    refine lv_isub hx hb dX2_isKnot_15 ?_
    refine lv_i2l hx hb dX2_isKnot_16 rfl ?_
    refine mc_si (As := [.long (x1).toInt64, .long (0 : Int64), .long ((mgi σ 21) - 1).toInt64]) (rest := []) X (mM_in l (x1).toInt64 (0 : Int64) ((mgi σ 21) - 1).toInt64 _ hw) (lw_S q2198 q2199 q_ini2 q2200) hd2_in (mm_le hRf rfl) (mm_le hRl rfl) rfl rfl (Nat.le_of_ble_eq_true rfl) dX2_isKnot_17 hR hS hl.1 (fun r17 H locs hw hR hS => ?_)
    refine lv_if_eq (tgt := 27) hx hb dX2_isKnot_20 (by decide) (fun c_20 => ?_) (fun c_20 => ?_)
    · have hw := hw.1 c_20
      exact hJ27  hw H locs ls hR hS (lv_sub hl [] rfl)
    · have hw := hw.2 c_20
      refine lv_iconst (v := 1) hx hb dX2_isKnot_23 (by decide) ?_
      refine lv_goto (tgt := 28) hx hb dX2_isKnot_24 (by decide) ?_
      exact hret _ _ _ _ _ _ ⟨rfl, hw⟩ (by decide) hR hS dX2_isKnot_28
def wM_knot (σ : mS) (x1 : Int32) (x2 : Int32) (Q : Int32 → mS → Prop) : Prop :=
  wM_in (x2).toInt64 (0 : Int64) (6 : Int64) (fun r6 => ((r6 = 0 → Q ((-1) : Int32) σ) ∧ (¬ r6 = 0 → wM_isKnot σ x1 (fun r16 => ((r16 = 0 → Q ((-2) : Int32) σ) ∧ (¬ r16 = 0 → ((x2 = 0 → vp_in x1 40 ∧ (Q (mga σ 24 x1.toNatClampNeg) σ)) ∧ (x2 = 1 → vp_in x1 40 ∧ (Q (mga σ 25 x1.toNatClampNeg) σ)) ∧ (x2 = 2 → wM_takesKnot σ x1 (fun σ80 => vp_in (mgi σ80 49) 8 ∧ (Q (mga σ80 51 (mgi σ80 49).toNatClampNeg) σ80))) ∧ (x2 = 3 → vp_in x1 40 ∧ (Q (mga σ 28 x1.toNatClampNeg) σ)) ∧ (x2 = 4 → vp_in x1 40 ∧ (Q (mga σ 30 x1.toNatClampNeg) σ)) ∧ (x2 = 5 → vp_in x1 40 ∧ (((0 ≤ (mga σ 26 x1.toNatClampNeg) → (vp_in x1 40 ∧ True)) ∧ (¬ 0 ≤ (mga σ 26 x1.toNatClampNeg) → True)) ∧ (∀ y113_0 : Int32, y113_0 = (if 0 ≤ (mga σ 26 x1.toNatClampNeg) then (mga σ 26 x1.toNatClampNeg) else (-2)) → Q y113_0 σ))) ∧ (¬ x2 = 0 → ¬ x2 = 1 → ¬ x2 = 2 → ¬ x2 = 3 → ¬ x2 = 4 → ¬ x2 = 5 → vp_in x1 40 ∧ (Q (mga σ 29 x1.toNatClampNeg) σ)))))))))
set_option maxHeartbeats 4000000 in
theorem mM_knot (l : Launch) (G : mG) (o : Nat) (ρ : Nat → Nat) (hap : mAp o ρ) (σ : mS) (x1 : Int32) (x2 : Int32) (Q : Int32 → mS → Prop) (hw : wM_knot σ x1 x2 Q) : mMetI l G yX2_knot (ws_ yX2_knot cX2_knot 3 (some .int)) 2 46 o ρ [.ref o, .int x1, .int x2] σ Q := by
  refine mo_I plain2 rfl (Nat.le_of_ble_eq_true rfl) ?_
  intro p e s R m args below meth c QQ X hRf hRl hret
  obtain ⟨hx, hb, hml, hown, hts, hE⟩ := id X
  intro H ls hR hS hl
  have hl : lv_has ls 3 [(0, .ref o), (1, .int x1), (2, .int x2)] := hl
  generalize ([] : List Loc) = locs at hS ⊢
  unfold wM_knot at hw
  refine lv_iload_n hx hb dX2_knot_0 rfl (lv_at hl 2 rfl) ?_
  refine lv_i2l hx hb dX2_knot_1 rfl ?_
  refine lv_lconst (v := 0) hx hb dX2_knot_2 (by decide) ?_
  refine lv_ldc2 (v := 6) hx hb hown (hts _ q2475) dX2_knot_3 ?_
  refine mc_si (As := [.long (x2).toInt64, .long (0 : Int64), .long (6 : Int64)]) (rest := []) X (mM_in l (x2).toInt64 (0 : Int64) (6 : Int64) _ hw) (lw_S q2198 q2199 q_ini2 q2200) hd2_in (mm_le hRf rfl) (mm_le hRl rfl) rfl rfl (Nat.le_of_ble_eq_true rfl) dX2_knot_6 hR hS hl.1 (fun r6 H locs hw hR hS => ?_)
  refine lv_if_ne (tgt := 14) hx hb dX2_knot_9 (by decide) (fun c_9 => ?_) (fun c_9 => ?_)
  · have hw := hw.2 c_9
    refine lv_aload_n hx hb dX2_knot_14 rfl (lv_at hl 0 rfl) ?_
    refine lv_iload_n hx hb dX2_knot_15 rfl (lv_at hl 1 rfl) ?_
    refine mc_vir (As := [.int x1]) (rest := []) X (mM_isKnot l G o ρ hap σ x1 _ hw) (lw_V q2476 q2478 qs95 q_ini2 q2479) hd2_isKnot (mm_le hRf rfl) (mm_le hRl rfl) rfl rfl (Nat.le_of_ble_eq_true rfl) dX2_knot_16 hR hS hl.1 (fun r16 H locs hw hR hS => ?_)
    refine lv_if_ne (tgt := 25) hx hb dX2_knot_19 (by decide) (fun c_19 => ?_) (fun c_19 => ?_)
    · have hw := hw.2 c_19
      refine lv_iload_n hx hb dX2_knot_25 rfl (lv_at hl 2 rfl) ?_
      by_cases c_26_0 : x2 = 0
      · have hw := hw.1 c_26_0
        refine lv_tableIn (off := 38) (tgt := 64) hx hb dX2_knot_26 (by rw [c_26_0]; decide) (by rw [c_26_0]; decide) (by rw [c_26_0]; rfl) (by decide) ?_
        refine lv_aload_n hx hb dX2_knot_64 rfl (lv_at hl 0 rfl) ?_
        refine mg_24 hx hb hts hown hE hR dX2_knot_65 ?_
        refine lv_iload_n hx hb dX2_knot_68 rfl (lv_at hl 1 rfl) ?_
        obtain ⟨hi_69, hw⟩ := hw
        refine ma_24 hx hb hE hR hi_69 dX2_knot_69 ?_
        exact hret _ _ _ _ _ _ hw hR hS dX2_knot_70
      by_cases c_26_1 : x2 = 1
      · have hw := hw.2.1 c_26_1
        refine lv_tableIn (off := 45) (tgt := 71) hx hb dX2_knot_26 (by rw [c_26_1]; decide) (by rw [c_26_1]; decide) (by rw [c_26_1]; rfl) (by decide) ?_
        refine lv_aload_n hx hb dX2_knot_71 rfl (lv_at hl 0 rfl) ?_
        refine mg_25 hx hb hts hown hE hR dX2_knot_72 ?_
        refine lv_iload_n hx hb dX2_knot_75 rfl (lv_at hl 1 rfl) ?_
        obtain ⟨hi_76, hw⟩ := hw
        refine ma_25 hx hb hE hR hi_76 dX2_knot_76 ?_
        exact hret _ _ _ _ _ _ hw hR hS dX2_knot_77
      by_cases c_26_2 : x2 = 2
      · have hw := hw.2.2.1 c_26_2
        refine lv_tableIn (off := 52) (tgt := 78) hx hb dX2_knot_26 (by rw [c_26_2]; decide) (by rw [c_26_2]; decide) (by rw [c_26_2]; rfl) (by decide) ?_
        refine lv_aload_n hx hb dX2_knot_78 rfl (lv_at hl 0 rfl) ?_
        refine lv_iload_n hx hb dX2_knot_79 rfl (lv_at hl 1 rfl) ?_
        refine mc_vv (As := [.int x1]) (rest := []) X (mM_takesKnot l G o ρ hap σ x1 _ hw) (lw_V q2375 q2377 qs73 q_ini2 q2378) hd2_takesKnot (mm_le hRf rfl) (mm_le hRl rfl) rfl rfl (Nat.le_of_ble_eq_true rfl) dX2_knot_80 hR hS hl.1 (fun σ80 H locs hw hR hS => ?_)
        refine lv_aload_n hx hb dX2_knot_83 rfl (lv_at hl 0 rfl) ?_
        refine mg_51 hx hb hts hown hE hR dX2_knot_84 ?_
        refine lv_aload_n hx hb dX2_knot_87 rfl (lv_at hl 0 rfl) ?_
        refine mg_49 hx hb hts hown hE hR dX2_knot_88 ?_
        obtain ⟨hi_91, hw⟩ := hw
        refine ma_51 hx hb hE hR hi_91 dX2_knot_91 ?_
        exact hret _ _ _ _ _ _ hw hR hS dX2_knot_92
      by_cases c_26_3 : x2 = 3
      · have hw := hw.2.2.2.1 c_26_3
        refine lv_tableIn (off := 67) (tgt := 93) hx hb dX2_knot_26 (by rw [c_26_3]; decide) (by rw [c_26_3]; decide) (by rw [c_26_3]; rfl) (by decide) ?_
        refine lv_aload_n hx hb dX2_knot_93 rfl (lv_at hl 0 rfl) ?_
        refine mg_28 hx hb hts hown hE hR dX2_knot_94 ?_
        refine lv_iload_n hx hb dX2_knot_97 rfl (lv_at hl 1 rfl) ?_
        obtain ⟨hi_98, hw⟩ := hw
        refine ma_28 hx hb hE hR hi_98 dX2_knot_98 ?_
        exact hret _ _ _ _ _ _ hw hR hS dX2_knot_99
      by_cases c_26_4 : x2 = 4
      · have hw := hw.2.2.2.2.1 c_26_4
        refine lv_tableIn (off := 74) (tgt := 100) hx hb dX2_knot_26 (by rw [c_26_4]; decide) (by rw [c_26_4]; decide) (by rw [c_26_4]; rfl) (by decide) ?_
        refine lv_aload_n hx hb dX2_knot_100 rfl (lv_at hl 0 rfl) ?_
        refine mg_30 hx hb hts hown hE hR dX2_knot_101 ?_
        refine lv_iload_n hx hb dX2_knot_104 rfl (lv_at hl 1 rfl) ?_
        obtain ⟨hi_105, hw⟩ := hw
        refine ma_30 hx hb hE hR hi_105 dX2_knot_105 ?_
        exact hret _ _ _ _ _ _ hw hR hS dX2_knot_106
      by_cases c_26_5 : x2 = 5
      · have hw := hw.2.2.2.2.2.1 c_26_5
        refine lv_tableIn (off := 81) (tgt := 107) hx hb dX2_knot_26 (by rw [c_26_5]; decide) (by rw [c_26_5]; decide) (by rw [c_26_5]; rfl) (by decide) ?_
        refine lv_aload_n hx hb dX2_knot_107 rfl (lv_at hl 0 rfl) ?_
        refine mg_26 hx hb hts hown hE hR dX2_knot_108 ?_
        refine lv_iload_n hx hb dX2_knot_111 rfl (lv_at hl 1 rfl) ?_
        obtain ⟨hi_112, hw⟩ := hw
        refine ma_26 hx hb hE hR hi_112 dX2_knot_112 ?_
        obtain ⟨hg, hw⟩ := hw
        have hK113 : ∀ (y113_0 : Int32), y113_0 = (if 0 ≤ (mga σ 26 x1.toNatClampNeg) then (mga σ 26 x1.toNatClampNeg) else (-2)) → ∀ (ls : Array Slot), lv_has ls 3 [] → W p l e R s m args below meth c H locs 0 0 QQ (F0 m 127 ls [.int y113_0]) := by
          intro y113_0 e_y113_0 ls hl
          have hw := hw y113_0 e_y113_0
          exact hret _ _ _ _ _ _ hw hR hS dX2_knot_127
        refine lv_if_ge (tgt := 121) hx hb dX2_knot_113 (by decide) (fun c_113 => ?_) (fun c_113 => ?_)
        · have hg := hg.1 c_113
          refine lv_aload_n hx hb dX2_knot_121 rfl (lv_at hl 0 rfl) ?_
          refine mg_26 hx hb hts hown hE hR dX2_knot_122 ?_
          refine lv_iload_n hx hb dX2_knot_125 rfl (lv_at hl 1 rfl) ?_
          obtain ⟨hi_126, hg⟩ := hg
          refine ma_26 hx hb hE hR hi_126 dX2_knot_126 ?_
          exact hK113 _ (if_pos c_113).symm ls (lv_sub hl [] rfl)
        · have hg := hg.2 c_113
          refine lv_bipush (v := (-2)) hx hb dX2_knot_116 (by decide) ?_
          refine lv_goto (tgt := 127) hx hb dX2_knot_118 (by decide) ?_
          exact hK113 _ (if_neg c_113).symm ls (lv_sub hl [] rfl)
      have hw := hw.2.2.2.2.2.2 c_26_0 c_26_1 c_26_2 c_26_3 c_26_4 c_26_5
      have t_c_26_0 := lv_neT (a := 0) c_26_0 (by decide)
      have t_c_26_1 := lv_neT (a := 1) c_26_1 (by decide)
      have t_c_26_2 := lv_neT (a := 2) c_26_2 (by decide)
      have t_c_26_3 := lv_neT (a := 3) c_26_3 (by decide)
      have t_c_26_4 := lv_neT (a := 4) c_26_4 (by decide)
      have t_c_26_5 := lv_neT (a := 5) c_26_5 (by decide)
      refine lv_tableOut (tgt := 128) hx hb dX2_knot_26 (by omega) (by decide) ?_
      refine lv_aload_n hx hb dX2_knot_128 rfl (lv_at hl 0 rfl) ?_
      refine mg_29 hx hb hts hown hE hR dX2_knot_129 ?_
      refine lv_iload_n hx hb dX2_knot_132 rfl (lv_at hl 1 rfl) ?_
      obtain ⟨hi_133, hw⟩ := hw
      refine ma_29 hx hb hE hR hi_133 dX2_knot_133 ?_
      exact hret _ _ _ _ _ _ hw hR hS dX2_knot_134
    · have hw := hw.1 c_19
      refine lv_bipush (v := (-2)) hx hb dX2_knot_22 (by decide) ?_
      exact hret _ _ _ _ _ _ hw hR hS dX2_knot_24
  · have hw := hw.1 c_9
    refine lv_iconst (v := (-1)) hx hb dX2_knot_12 (by decide) ?_
    exact hret _ _ _ _ _ _ hw hR hS dX2_knot_13
def wM_key_j29  (Q : Int64 → Prop) (σ : mS)   : Prop :=
  Q ((-9223372036854775808) : Int64)
def wM_key (σ : mS) (x1 : Int32) (x2 : Int32) (Q : Int64 → Prop) : Prop :=
  wM_isKnot σ x1 (fun r2 => ((r2 = 0 → (wM_key_j29  Q σ )) ∧ (¬ r2 = 0 → wM_isPower x2 (fun r9 => ((r9 = 0 → (wM_key_j29  Q σ )) ∧ (¬ r9 = 0 → vp_in ((9 * x1) + x2) 369 ∧ (Q (mgl σ 9 ((9 * x1) + x2).toNatClampNeg))))))))
set_option maxHeartbeats 4000000 in
theorem mM_key (l : Launch) (G : mG) (o : Nat) (ρ : Nat → Nat) (hap : mAp o ρ) (σ : mS) (x1 : Int32) (x2 : Int32) (Q : Int64 → Prop) (hw : wM_key σ x1 x2 Q) : mMetL l G yX2_key (ws_ yX2_key cX2_key 3 (some .long)) 2 46 o ρ [.ref o, .int x1, .int x2] σ (fun r τ => σ = τ ∧ Q r) := by
  refine mo_L plain2 rfl (Nat.le_of_ble_eq_true rfl) ?_
  intro p e s R m args below meth c QQ X hRf hRl hret
  obtain ⟨hx, hb, hml, hown, hts, hE⟩ := id X
  have hJ29 : wM_key_j29  Q σ  → ∀ (H : Heap) (locs : List Loc) (ls : Array Slot), mR G o ρ σ H → va_S (mA o ρ) s.heap H locs → lv_has ls 3 [] → W p l e R s m args below meth c H locs 0 0 QQ (F0 m 29 ls []) := by
    intro  hw H locs ls hR hS hl
    unfold wM_key_j29 at hw
    refine lv_ldc2 (v := (-9223372036854775808)) hx hb hown (hts _ q2264) dX2_key_29 ?_
    exact hret _ _ _ _ _ _ ⟨rfl, hw⟩ hR hS dX2_key_32
  intro H ls hR hS hl
  have hl : lv_has ls 3 [(0, .ref o), (1, .int x1), (2, .int x2)] := hl
  generalize ([] : List Loc) = locs at hS ⊢
  unfold wM_key at hw
  refine lv_aload_n hx hb dX2_key_0 rfl (lv_at hl 0 rfl) ?_
  refine lv_iload_n hx hb dX2_key_1 rfl (lv_at hl 1 rfl) ?_
  refine mc_vir (As := [.int x1]) (rest := []) X (mM_isKnot l G o ρ hap σ x1 _ hw) (lw_V q2476 q2478 qs95 q_ini2 q2479) hd2_isKnot (mm_le hRf rfl) (mm_le hRl rfl) rfl rfl (Nat.le_of_ble_eq_true rfl) dX2_key_2 hR hS hl.1 (fun r2 H locs hw hR hS => ?_)
  refine lv_if_eq (tgt := 29) hx hb dX2_key_5 (by decide) (fun c_5 => ?_) (fun c_5 => ?_)
  · have hw := hw.1 c_5
    exact hJ29  hw H locs ls hR hS (lv_sub hl [] rfl)
  · have hw := hw.2 c_5
    refine lv_iload_n hx hb dX2_key_8 rfl (lv_at hl 2 rfl) ?_
    refine mc_si (As := [.int x2]) (rest := []) X (mM_isPower l x2 _ hw) (lw_S q2261 q2262 q_ini2 q2263) hd2_isPower (mm_le hRf rfl) (mm_le hRl rfl) rfl rfl (Nat.le_of_ble_eq_true rfl) dX2_key_9 hR hS hl.1 (fun r9 H locs hw hR hS => ?_)
    refine lv_if_eq (tgt := 29) hx hb dX2_key_12 (by decide) (fun c_12 => ?_) (fun c_12 => ?_)
    · have hw := hw.1 c_12
      exact hJ29  hw H locs ls hR hS (lv_sub hl [] rfl)
    · have hw := hw.2 c_12
      refine lv_aload_n hx hb dX2_key_15 rfl (lv_at hl 0 rfl) ?_
      refine mg_9 hx hb hts hown hE hR dX2_key_16 ?_
      refine lv_bipush (v := 9) hx hb dX2_key_19 (by decide) ?_
      refine lv_iload_n hx hb dX2_key_21 rfl (lv_at hl 1 rfl) ?_
      refine lv_imul hx hb dX2_key_22 ?_
      refine lv_iload_n hx hb dX2_key_23 rfl (lv_at hl 2 rfl) ?_
      refine lv_iadd hx hb dX2_key_24 ?_
      obtain ⟨hi_25, hw⟩ := hw
      refine ma_9 hx hb hE hR hi_25 dX2_key_25 ?_
      refine lv_goto (tgt := 32) hx hb dX2_key_26 (by decide) ?_
      exact hret _ _ _ _ _ _ ⟨rfl, hw⟩ hR hS dX2_key_32
def wM_point_j26  (Q : Int32 → Prop) (σ : mS)   : Prop :=
  Q ((-2) : Int32)
def wM_point (σ : mS) (x1 : Int32) (x2 : Int32) (Q : Int32 → Prop) : Prop :=
  wM_isPower x2 (fun r1 => ((r1 = 0 → Q ((-1) : Int32)) ∧ (¬ r1 = 0 → wM_isKnot σ x1 (fun r11 => ((r11 = 0 → (wM_point_j26  Q σ )) ∧ (¬ r11 = 0 → wM_point0 σ x1 x2 (fun r20 => ((0 ≤ r20 → wM_point0 σ x1 x2 (fun r34 => Q r34)) ∧ (¬ 0 ≤ r20 → (wM_point_j26  Q σ ))))))))))
set_option maxHeartbeats 4000000 in
theorem mM_point (l : Launch) (G : mG) (o : Nat) (ρ : Nat → Nat) (hap : mAp o ρ) (σ : mS) (x1 : Int32) (x2 : Int32) (Q : Int32 → Prop) (hw : wM_point σ x1 x2 Q) : mMetI l G yX2_point (ws_ yX2_point cX2_point 3 (some .int)) 2 46 o ρ [.ref o, .int x1, .int x2] σ (fun r τ => σ = τ ∧ Q r) := by
  refine mo_I plain2 rfl (Nat.le_of_ble_eq_true rfl) ?_
  intro p e s R m args below meth c QQ X hRf hRl hret
  obtain ⟨hx, hb, hml, hown, hts, hE⟩ := id X
  have hJ26 : wM_point_j26  Q σ  → ∀ (H : Heap) (locs : List Loc) (ls : Array Slot), mR G o ρ σ H → va_S (mA o ρ) s.heap H locs → lv_has ls 3 [] → W p l e R s m args below meth c H locs 0 0 QQ (F0 m 26 ls []) := by
    intro  hw H locs ls hR hS hl
    unfold wM_point_j26 at hw
    refine lv_bipush (v := (-2)) hx hb dX2_point_26 (by decide) ?_
    refine lv_goto (tgt := 37) hx hb dX2_point_28 (by decide) ?_
    exact hret _ _ _ _ _ _ ⟨rfl, hw⟩ hR hS dX2_point_37
  intro H ls hR hS hl
  have hl : lv_has ls 3 [(0, .ref o), (1, .int x1), (2, .int x2)] := hl
  generalize ([] : List Loc) = locs at hS ⊢
  unfold wM_point at hw
  refine lv_iload_n hx hb dX2_point_0 rfl (lv_at hl 2 rfl) ?_
  refine mc_si (As := [.int x2]) (rest := []) X (mM_isPower l x2 _ hw) (lw_S q2261 q2262 q_ini2 q2263) hd2_isPower (mm_le hRf rfl) (mm_le hRl rfl) rfl rfl (Nat.le_of_ble_eq_true rfl) dX2_point_1 hR hS hl.1 (fun r1 H locs hw hR hS => ?_)
  refine lv_if_ne (tgt := 9) hx hb dX2_point_4 (by decide) (fun c_4 => ?_) (fun c_4 => ?_)
  · have hw := hw.2 c_4
    refine lv_aload_n hx hb dX2_point_9 rfl (lv_at hl 0 rfl) ?_
    refine lv_iload_n hx hb dX2_point_10 rfl (lv_at hl 1 rfl) ?_
    refine mc_vir (As := [.int x1]) (rest := []) X (mM_isKnot l G o ρ hap σ x1 _ hw) (lw_V q2476 q2478 qs95 q_ini2 q2479) hd2_isKnot (mm_le hRf rfl) (mm_le hRl rfl) rfl rfl (Nat.le_of_ble_eq_true rfl) dX2_point_11 hR hS hl.1 (fun r11 H locs hw hR hS => ?_)
    refine lv_if_eq (tgt := 26) hx hb dX2_point_14 (by decide) (fun c_14 => ?_) (fun c_14 => ?_)
    · have hw := hw.1 c_14
      exact hJ26  hw H locs ls hR hS (lv_sub hl [] rfl)
    · have hw := hw.2 c_14
      refine lv_aload_n hx hb dX2_point_17 rfl (lv_at hl 0 rfl) ?_
      refine lv_iload_n hx hb dX2_point_18 rfl (lv_at hl 1 rfl) ?_
      refine lv_iload_n hx hb dX2_point_19 rfl (lv_at hl 2 rfl) ?_
      refine mc_vir (As := [.int x1, .int x2]) (rest := []) X (mM_point0 l G o ρ hap σ x1 x2 _ hw) (lw_V q2407 q2409 qs81 q_ini2 q2410) hd2_point0 (mm_le hRf rfl) (mm_le hRl rfl) rfl rfl (Nat.le_of_ble_eq_true rfl) dX2_point_20 hR hS hl.1 (fun r20 H locs hw hR hS => ?_)
      refine lv_if_ge (tgt := 31) hx hb dX2_point_23 (by decide) (fun c_23 => ?_) (fun c_23 => ?_)
      · have hw := hw.1 c_23
        refine lv_aload_n hx hb dX2_point_31 rfl (lv_at hl 0 rfl) ?_
        refine lv_iload_n hx hb dX2_point_32 rfl (lv_at hl 1 rfl) ?_
        refine lv_iload_n hx hb dX2_point_33 rfl (lv_at hl 2 rfl) ?_
        refine mc_vir (As := [.int x1, .int x2]) (rest := []) X (mM_point0 l G o ρ hap σ x1 x2 _ hw) (lw_V q2407 q2409 qs81 q_ini2 q2410) hd2_point0 (mm_le hRf rfl) (mm_le hRl rfl) rfl rfl (Nat.le_of_ble_eq_true rfl) dX2_point_34 hR hS hl.1 (fun r34 H locs hw hR hS => ?_)
        exact hret _ _ _ _ _ _ ⟨rfl, hw⟩ hR hS dX2_point_37
      · have hw := hw.2 c_23
        exact hJ26  hw H locs ls hR hS (lv_sub hl [] rfl)
  · have hw := hw.1 c_4
    refine lv_iconst (v := (-1)) hx hb dX2_point_7 (by decide) ?_
    exact hret _ _ _ _ _ _ ⟨rfl, hw⟩ hR hS dX2_point_8
def wM_isSide_j30  (Q : Int32 → Prop) (σ : mS)   : Prop :=
  Q (0 : Int32)
def wM_isSide (σ : mS) (x1 : Int32) (x2 : Int32) (Q : Int32 → Prop) : Prop :=
  wM_isKnot σ x1 (fun r2 => ((r2 = 0 → (wM_isSide_j30  Q σ )) ∧ (¬ r2 = 0 → vp_in x1 40 ∧ (wM_in (x2).toInt64 (0 : Int64) ((mga σ 28 x1.toNatClampNeg) - 1).toInt64 (fun r20 => ((r20 = 0 → (wM_isSide_j30  Q σ )) ∧ (¬ r20 = 0 → Q (1 : Int32))))))))
set_option maxHeartbeats 4000000 in
theorem mM_isSide (l : Launch) (G : mG) (o : Nat) (ρ : Nat → Nat) (hap : mAp o ρ) (σ : mS) (x1 : Int32) (x2 : Int32) (Q : Int32 → Prop) (hw : wM_isSide σ x1 x2 Q) : mMetI l G yX2_isSide (ws_ yX2_isSide cX2_isSide 3 (some .boolean)) 2 46 o ρ [.ref o, .int x1, .int x2] σ (fun r τ => σ = τ ∧ Q r) := by
  refine mo_Z plain2 rfl (Nat.le_of_ble_eq_true rfl) ?_
  intro p e s R m args below meth c QQ X hRf hRl hret
  obtain ⟨hx, hb, hml, hown, hts, hE⟩ := id X
  have hJ30 : wM_isSide_j30  Q σ  → ∀ (H : Heap) (locs : List Loc) (ls : Array Slot), mR G o ρ σ H → va_S (mA o ρ) s.heap H locs → lv_has ls 3 [] → W p l e R s m args below meth c H locs 0 0 QQ (F0 m 30 ls []) := by
    intro  hw H locs ls hR hS hl
    unfold wM_isSide_j30 at hw
    refine lv_iconst (v := 0) hx hb dX2_isSide_30 (by decide) ?_
    exact hret _ _ _ _ _ _ ⟨rfl, hw⟩ (by decide) hR hS dX2_isSide_31
  intro H ls hR hS hl
  have hl : lv_has ls 3 [(0, .ref o), (1, .int x1), (2, .int x2)] := hl
  generalize ([] : List Loc) = locs at hS ⊢
  unfold wM_isSide at hw
  refine lv_aload_n hx hb dX2_isSide_0 rfl (lv_at hl 0 rfl) ?_
  refine lv_iload_n hx hb dX2_isSide_1 rfl (lv_at hl 1 rfl) ?_
  refine mc_vir (As := [.int x1]) (rest := []) X (mM_isKnot l G o ρ hap σ x1 _ hw) (lw_V q2476 q2478 qs95 q_ini2 q2479) hd2_isKnot (mm_le hRf rfl) (mm_le hRl rfl) rfl rfl (Nat.le_of_ble_eq_true rfl) dX2_isSide_2 hR hS hl.1 (fun r2 H locs hw hR hS => ?_)
  refine lv_if_eq (tgt := 30) hx hb dX2_isSide_5 (by decide) (fun c_5 => ?_) (fun c_5 => ?_)
  · have hw := hw.1 c_5
    exact hJ30  hw H locs ls hR hS (lv_sub hl [] rfl)
  · have hw := hw.2 c_5
    refine lv_iload_n hx hb dX2_isSide_8 rfl (lv_at hl 2 rfl) ?_
    refine lv_i2l hx hb dX2_isSide_9 rfl ?_
    refine lv_lconst (v := 0) hx hb dX2_isSide_10 (by decide) ?_
    refine lv_aload_n hx hb dX2_isSide_11 rfl (lv_at hl 0 rfl) ?_
    refine mg_28 hx hb hts hown hE hR dX2_isSide_12 ?_
    refine lv_iload_n hx hb dX2_isSide_15 rfl (lv_at hl 1 rfl) ?_
    obtain ⟨hi_16, hw⟩ := hw
    refine ma_28 hx hb hE hR hi_16 dX2_isSide_16 ?_
    refine lv_iconst (v := 1) hx hb dX2_isSide_17 (by decide) ?_
    refine lv_isub hx hb dX2_isSide_18 ?_
    refine lv_i2l hx hb dX2_isSide_19 rfl ?_
    refine mc_si (As := [.long (x2).toInt64, .long (0 : Int64), .long ((mga σ 28 x1.toNatClampNeg) - 1).toInt64]) (rest := []) X (mM_in l (x2).toInt64 (0 : Int64) ((mga σ 28 x1.toNatClampNeg) - 1).toInt64 _ hw) (lw_S q2198 q2199 q_ini2 q2200) hd2_in (mm_le hRf rfl) (mm_le hRl rfl) rfl rfl (Nat.le_of_ble_eq_true rfl) dX2_isSide_20 hR hS hl.1 (fun r20 H locs hw hR hS => ?_)
    refine lv_if_eq (tgt := 30) hx hb dX2_isSide_23 (by decide) (fun c_23 => ?_) (fun c_23 => ?_)
    · have hw := hw.1 c_23
      exact hJ30  hw H locs ls hR hS (lv_sub hl [] rfl)
    · have hw := hw.2 c_23
      refine lv_iconst (v := 1) hx hb dX2_isSide_26 (by decide) ?_
      refine lv_goto (tgt := 31) hx hb dX2_isSide_27 (by decide) ?_
      exact hret _ _ _ _ _ _ ⟨rfl, hw⟩ (by decide) hR hS dX2_isSide_31
def wM_side (σ : mS) (x1 : Int32) (x2 : Int32) (x3 : Int32) (Q : Int32 → Prop) : Prop :=
  wM_in (x3).toInt64 (0 : Int64) (5 : Int64) (fun r6 => ((r6 = 0 → Q ((-1) : Int32)) ∧ (¬ r6 = 0 → wM_isSide σ x1 x2 (fun r17 => ((r17 = 0 → Q ((-2) : Int32)) ∧ (¬ r17 = 0 → vp_in x1 40 ∧ (((x3 = 0 → vp_in ((mga σ 27 x1.toNatClampNeg) + x2) 64 ∧ (Q (mga σ 36 ((mga σ 27 x1.toNatClampNeg) + x2).toNatClampNeg))) ∧ (x3 = 1 → vp_in ((mga σ 27 x1.toNatClampNeg) + x2) 64 ∧ (Q (mga σ 37 ((mga σ 27 x1.toNatClampNeg) + x2).toNatClampNeg))) ∧ (x3 = 2 → vp_in ((mga σ 27 x1.toNatClampNeg) + x2) 64 ∧ (Q (mga σ 38 ((mga σ 27 x1.toNatClampNeg) + x2).toNatClampNeg))) ∧ (x3 = 3 → vp_in ((mga σ 27 x1.toNatClampNeg) + x2) 64 ∧ (Q (mga σ 39 ((mga σ 27 x1.toNatClampNeg) + x2).toNatClampNeg))) ∧ (x3 = 4 → vp_in ((mga σ 27 x1.toNatClampNeg) + x2) 64 ∧ (Q (mga σ 40 ((mga σ 27 x1.toNatClampNeg) + x2).toNatClampNeg))) ∧ (¬ x3 = 0 → ¬ x3 = 1 → ¬ x3 = 2 → ¬ x3 = 3 → ¬ x3 = 4 → vp_in ((mga σ 27 x1.toNatClampNeg) + x2) 64 ∧ (Q (mga σ 41 ((mga σ 27 x1.toNatClampNeg) + x2).toNatClampNeg)))))))))))
set_option maxHeartbeats 4000000 in
theorem mM_side (l : Launch) (G : mG) (o : Nat) (ρ : Nat → Nat) (hap : mAp o ρ) (σ : mS) (x1 : Int32) (x2 : Int32) (x3 : Int32) (Q : Int32 → Prop) (hw : wM_side σ x1 x2 x3 Q) : mMetI l G yX2_side (ws_ yX2_side cX2_side 5 (some .int)) 3 68 o ρ [.ref o, .int x1, .int x2, .int x3] σ (fun r τ => σ = τ ∧ Q r) := by
  refine mo_I plain2 rfl (Nat.le_of_ble_eq_true rfl) ?_
  intro p e s R m args below meth c QQ X hRf hRl hret
  obtain ⟨hx, hb, hml, hown, hts, hE⟩ := id X
  intro H ls hR hS hl
  have hl : lv_has ls 5 [(0, .ref o), (1, .int x1), (2, .int x2), (3, .int x3)] := hl
  generalize ([] : List Loc) = locs at hS ⊢
  unfold wM_side at hw
  refine lv_iload_n hx hb dX2_side_0 rfl (lv_at hl 3 rfl) ?_
  refine lv_i2l hx hb dX2_side_1 rfl ?_
  refine lv_lconst (v := 0) hx hb dX2_side_2 (by decide) ?_
  refine lv_ldc2 (v := 5) hx hb hown (hts _ q2492) dX2_side_3 ?_
  refine mc_si (As := [.long (x3).toInt64, .long (0 : Int64), .long (5 : Int64)]) (rest := []) X (mM_in l (x3).toInt64 (0 : Int64) (5 : Int64) _ hw) (lw_S q2198 q2199 q_ini2 q2200) hd2_in (mm_le hRf rfl) (mm_le hRl rfl) rfl rfl (Nat.le_of_ble_eq_true rfl) dX2_side_6 hR hS hl.1 (fun r6 H locs hw hR hS => ?_)
  refine lv_if_ne (tgt := 14) hx hb dX2_side_9 (by decide) (fun c_9 => ?_) (fun c_9 => ?_)
  · have hw := hw.2 c_9
    refine lv_aload_n hx hb dX2_side_14 rfl (lv_at hl 0 rfl) ?_
    refine lv_iload_n hx hb dX2_side_15 rfl (lv_at hl 1 rfl) ?_
    refine lv_iload_n hx hb dX2_side_16 rfl (lv_at hl 2 rfl) ?_
    refine mc_vir (As := [.int x1, .int x2]) (rest := []) X (mM_isSide l G o ρ hap σ x1 x2 _ hw) (lw_V q2493 q2495 qs96 q_ini2 q2496) hd2_isSide (mm_le hRf rfl) (mm_le hRl rfl) rfl rfl (Nat.le_of_ble_eq_true rfl) dX2_side_17 hR hS hl.1 (fun r17 H locs hw hR hS => ?_)
    refine lv_if_ne (tgt := 26) hx hb dX2_side_20 (by decide) (fun c_20 => ?_) (fun c_20 => ?_)
    · have hw := hw.2 c_20
      refine lv_aload_n hx hb dX2_side_26 rfl (lv_at hl 0 rfl) ?_
      refine mg_27 hx hb hts hown hE hR dX2_side_27 ?_
      refine lv_iload_n hx hb dX2_side_30 rfl (lv_at hl 1 rfl) ?_
      obtain ⟨hi_31, hw⟩ := hw
      refine ma_27 hx hb hE hR hi_31 dX2_side_31 ?_
      refine lv_iload_n hx hb dX2_side_32 rfl (lv_at hl 2 rfl) ?_
      refine lv_iadd hx hb dX2_side_33 ?_
      refine lv_istore (lv' := [(4, .int ((mga σ 27 x1.toNatClampNeg) + x2)), (0, .ref o), (1, .int x1), (2, .int x2), (3, .int x3)]) hx hb dX2_side_34 hl (by decide) rfl (fun ls hl => ?_)
      refine lv_iload_n hx hb dX2_side_36 rfl (lv_at hl 4 rfl) ?_
      by_cases c_37_0 : x3 = 0
      · have hw := hw.1 c_37_0
        refine lv_tableIn (off := 35) (tgt := 72) hx hb dX2_side_37 (by rw [c_37_0]; decide) (by rw [c_37_0]; decide) (by rw [c_37_0]; rfl) (by decide) ?_
        refine lv_aload_n hx hb dX2_side_72 rfl (lv_at hl 1 rfl) ?_
        refine mg_36 hx hb hts hown hE hR dX2_side_73 ?_
        refine lv_iload hx hb dX2_side_76 (lv_at hl 0 rfl) ?_
        obtain ⟨hi_78, hw⟩ := hw
        refine ma_36 hx hb hE hR hi_78 dX2_side_78 ?_
        exact hret _ _ _ _ _ _ ⟨rfl, hw⟩ hR hS dX2_side_79
      by_cases c_37_1 : x3 = 1
      · have hw := hw.2.1 c_37_1
        refine lv_tableIn (off := 43) (tgt := 80) hx hb dX2_side_37 (by rw [c_37_1]; decide) (by rw [c_37_1]; decide) (by rw [c_37_1]; rfl) (by decide) ?_
        refine lv_aload_n hx hb dX2_side_80 rfl (lv_at hl 1 rfl) ?_
        refine mg_37 hx hb hts hown hE hR dX2_side_81 ?_
        refine lv_iload hx hb dX2_side_84 (lv_at hl 0 rfl) ?_
        obtain ⟨hi_86, hw⟩ := hw
        refine ma_37 hx hb hE hR hi_86 dX2_side_86 ?_
        exact hret _ _ _ _ _ _ ⟨rfl, hw⟩ hR hS dX2_side_87
      by_cases c_37_2 : x3 = 2
      · have hw := hw.2.2.1 c_37_2
        refine lv_tableIn (off := 51) (tgt := 88) hx hb dX2_side_37 (by rw [c_37_2]; decide) (by rw [c_37_2]; decide) (by rw [c_37_2]; rfl) (by decide) ?_
        refine lv_aload_n hx hb dX2_side_88 rfl (lv_at hl 1 rfl) ?_
        refine mg_38 hx hb hts hown hE hR dX2_side_89 ?_
        refine lv_iload hx hb dX2_side_92 (lv_at hl 0 rfl) ?_
        obtain ⟨hi_94, hw⟩ := hw
        refine ma_38 hx hb hE hR hi_94 dX2_side_94 ?_
        exact hret _ _ _ _ _ _ ⟨rfl, hw⟩ hR hS dX2_side_95
      by_cases c_37_3 : x3 = 3
      · have hw := hw.2.2.2.1 c_37_3
        refine lv_tableIn (off := 59) (tgt := 96) hx hb dX2_side_37 (by rw [c_37_3]; decide) (by rw [c_37_3]; decide) (by rw [c_37_3]; rfl) (by decide) ?_
        refine lv_aload_n hx hb dX2_side_96 rfl (lv_at hl 1 rfl) ?_
        refine mg_39 hx hb hts hown hE hR dX2_side_97 ?_
        refine lv_iload hx hb dX2_side_100 (lv_at hl 0 rfl) ?_
        obtain ⟨hi_102, hw⟩ := hw
        refine ma_39 hx hb hE hR hi_102 dX2_side_102 ?_
        exact hret _ _ _ _ _ _ ⟨rfl, hw⟩ hR hS dX2_side_103
      by_cases c_37_4 : x3 = 4
      · have hw := hw.2.2.2.2.1 c_37_4
        refine lv_tableIn (off := 67) (tgt := 104) hx hb dX2_side_37 (by rw [c_37_4]; decide) (by rw [c_37_4]; decide) (by rw [c_37_4]; rfl) (by decide) ?_
        refine lv_aload_n hx hb dX2_side_104 rfl (lv_at hl 1 rfl) ?_
        refine mg_40 hx hb hts hown hE hR dX2_side_105 ?_
        refine lv_iload hx hb dX2_side_108 (lv_at hl 0 rfl) ?_
        obtain ⟨hi_110, hw⟩ := hw
        refine ma_40 hx hb hE hR hi_110 dX2_side_110 ?_
        exact hret _ _ _ _ _ _ ⟨rfl, hw⟩ hR hS dX2_side_111
      have hw := hw.2.2.2.2.2 c_37_0 c_37_1 c_37_2 c_37_3 c_37_4
      have t_c_37_0 := lv_neT (a := 0) c_37_0 (by decide)
      have t_c_37_1 := lv_neT (a := 1) c_37_1 (by decide)
      have t_c_37_2 := lv_neT (a := 2) c_37_2 (by decide)
      have t_c_37_3 := lv_neT (a := 3) c_37_3 (by decide)
      have t_c_37_4 := lv_neT (a := 4) c_37_4 (by decide)
      refine lv_tableOut (tgt := 112) hx hb dX2_side_37 (by omega) (by decide) ?_
      refine lv_aload_n hx hb dX2_side_112 rfl (lv_at hl 1 rfl) ?_
      refine mg_41 hx hb hts hown hE hR dX2_side_113 ?_
      refine lv_iload hx hb dX2_side_116 (lv_at hl 0 rfl) ?_
      obtain ⟨hi_118, hw⟩ := hw
      refine ma_41 hx hb hE hR hi_118 dX2_side_118 ?_
      exact hret _ _ _ _ _ _ ⟨rfl, hw⟩ hR hS dX2_side_119
    · have hw := hw.1 c_20
      refine lv_bipush (v := (-2)) hx hb dX2_side_23 (by decide) ?_
      exact hret _ _ _ _ _ _ ⟨rfl, hw⟩ hR hS dX2_side_25
  · have hw := hw.1 c_9
    refine lv_iconst (v := (-1)) hx hb dX2_side_12 (by decide) ?_
    exact hret _ _ _ _ _ _ ⟨rfl, hw⟩ hR hS dX2_side_13
def wM_residual (σ : mS) (x1 : Int32) (x2 : Int32) (x3 : Int32) (Q : Int32 → Prop) : Prop :=
  wM_isPower x3 (fun r1 => ((r1 = 0 → Q ((-1) : Int32)) ∧ (¬ r1 = 0 → wM_isSide σ x1 x2 (fun r12 => ((r12 = 0 → True) ∧ (¬ r12 = 0 → (vp_in x1 40 ∧ (vp_in ((9 * ((mga σ 27 x1.toNatClampNeg) + x2)) + x3) 576 ∧ True)))) ∧ (∀ y15_0 : Int32, y15_0 = (if r12 = 0 then (-2) else (mga σ 43 ((9 * ((mga σ 27 x1.toNatClampNeg) + x2)) + x3).toNatClampNeg)) → Q y15_0)))))
set_option maxHeartbeats 4000000 in
theorem mM_residual (l : Launch) (G : mG) (o : Nat) (ρ : Nat → Nat) (hap : mAp o ρ) (σ : mS) (x1 : Int32) (x2 : Int32) (x3 : Int32) (Q : Int32 → Prop) (hw : wM_residual σ x1 x2 x3 Q) : mMetI l G yX2_residual (ws_ yX2_residual cX2_residual 4 (some .int)) 3 68 o ρ [.ref o, .int x1, .int x2, .int x3] σ (fun r τ => σ = τ ∧ Q r) := by
  refine mo_I plain2 rfl (Nat.le_of_ble_eq_true rfl) ?_
  intro p e s R m args below meth c QQ X hRf hRl hret
  obtain ⟨hx, hb, hml, hown, hts, hE⟩ := id X
  intro H ls hR hS hl
  have hl : lv_has ls 4 [(0, .ref o), (1, .int x1), (2, .int x2), (3, .int x3)] := hl
  generalize ([] : List Loc) = locs at hS ⊢
  unfold wM_residual at hw
  refine lv_iload_n hx hb dX2_residual_0 rfl (lv_at hl 3 rfl) ?_
  refine mc_si (As := [.int x3]) (rest := []) X (mM_isPower l x3 _ hw) (lw_S q2261 q2262 q_ini2 q2263) hd2_isPower (mm_le hRf rfl) (mm_le hRl rfl) rfl rfl (Nat.le_of_ble_eq_true rfl) dX2_residual_1 hR hS hl.1 (fun r1 H locs hw hR hS => ?_)
  refine lv_if_ne (tgt := 9) hx hb dX2_residual_4 (by decide) (fun c_4 => ?_) (fun c_4 => ?_)
  · have hw := hw.2 c_4
    refine lv_aload_n hx hb dX2_residual_9 rfl (lv_at hl 0 rfl) ?_
    refine lv_iload_n hx hb dX2_residual_10 rfl (lv_at hl 1 rfl) ?_
    refine lv_iload_n hx hb dX2_residual_11 rfl (lv_at hl 2 rfl) ?_
    refine mc_vir (As := [.int x1, .int x2]) (rest := []) X (mM_isSide l G o ρ hap σ x1 x2 _ hw) (lw_V q2493 q2495 qs96 q_ini2 q2496) hd2_isSide (mm_le hRf rfl) (mm_le hRl rfl) rfl rfl (Nat.le_of_ble_eq_true rfl) dX2_residual_12 hR hS hl.1 (fun r12 H locs hw hR hS => ?_)
    obtain ⟨hg, hw⟩ := hw
    have hK15 : ∀ (y15_0 : Int32), y15_0 = (if r12 = 0 then (-2) else (mga σ 43 ((9 * ((mga σ 27 x1.toNatClampNeg) + x2)) + x3).toNatClampNeg)) → ∀ (ls : Array Slot), lv_has ls 4 [] → W p l e R s m args below meth c H locs 0 0 QQ (F0 m 41 ls [.int y15_0]) := by
      intro y15_0 e_y15_0 ls hl
      have hw := hw y15_0 e_y15_0
      exact hret _ _ _ _ _ _ ⟨rfl, hw⟩ hR hS dX2_residual_41
    refine lv_if_eq (tgt := 39) hx hb dX2_residual_15 (by decide) (fun c_15 => ?_) (fun c_15 => ?_)
    · have hg := hg.1 c_15
      refine lv_bipush (v := (-2)) hx hb dX2_residual_39 (by decide) ?_
      exact hK15 _ (if_pos c_15).symm ls (lv_sub hl [] rfl)
    · have hg := hg.2 c_15
      refine lv_aload_n hx hb dX2_residual_18 rfl (lv_at hl 0 rfl) ?_
      refine mg_43 hx hb hts hown hE hR dX2_residual_19 ?_
      refine lv_bipush (v := 9) hx hb dX2_residual_22 (by decide) ?_
      refine lv_aload_n hx hb dX2_residual_24 rfl (lv_at hl 0 rfl) ?_
      refine mg_27 hx hb hts hown hE hR dX2_residual_25 ?_
      refine lv_iload_n hx hb dX2_residual_28 rfl (lv_at hl 1 rfl) ?_
      obtain ⟨hi_29, hg⟩ := hg
      refine ma_27 hx hb hE hR hi_29 dX2_residual_29 ?_
      refine lv_iload_n hx hb dX2_residual_30 rfl (lv_at hl 2 rfl) ?_
      refine lv_iadd hx hb dX2_residual_31 ?_
      refine lv_imul hx hb dX2_residual_32 ?_
      refine lv_iload_n hx hb dX2_residual_33 rfl (lv_at hl 3 rfl) ?_
      refine lv_iadd hx hb dX2_residual_34 ?_
      obtain ⟨hi_35, hg⟩ := hg
      refine ma_43 hx hb hE hR hi_35 dX2_residual_35 ?_
      refine lv_goto (tgt := 41) hx hb dX2_residual_36 (by decide) ?_
      exact hK15 _ (if_neg c_15).symm ls (lv_sub hl [] rfl)
  · have hw := hw.1 c_4
    refine lv_iconst (v := (-1)) hx hb dX2_residual_7 (by decide) ?_
    exact hret _ _ _ _ _ _ ⟨rfl, hw⟩ hR hS dX2_residual_8
def wM_monomial (σ : mS) (x1 : Int32) (x2 : Int32) (x3 : Int32) (Q : Int32 → Prop) : Prop :=
  wM_in (x3).toInt64 (0 : Int64) (6 : Int64) (fun r6 => ((r6 = 0 → Q ((-1) : Int32)) ∧ (¬ r6 = 0 → wM_isSide σ x1 x2 (fun r17 => ((r17 = 0 → True) ∧ (¬ r17 = 0 → (vp_in x1 40 ∧ (vp_in ((7 * ((mga σ 27 x1.toNatClampNeg) + x2)) + x3) 448 ∧ True)))) ∧ (∀ y20_0 : Int32, y20_0 = (if r17 = 0 then (-2) else (mga σ 42 ((7 * ((mga σ 27 x1.toNatClampNeg) + x2)) + x3).toNatClampNeg)) → Q y20_0)))))
set_option maxHeartbeats 4000000 in
theorem mM_monomial (l : Launch) (G : mG) (o : Nat) (ρ : Nat → Nat) (hap : mAp o ρ) (σ : mS) (x1 : Int32) (x2 : Int32) (x3 : Int32) (Q : Int32 → Prop) (hw : wM_monomial σ x1 x2 x3 Q) : mMetI l G yX2_monomial (ws_ yX2_monomial cX2_monomial 4 (some .int)) 3 68 o ρ [.ref o, .int x1, .int x2, .int x3] σ (fun r τ => σ = τ ∧ Q r) := by
  refine mo_I plain2 rfl (Nat.le_of_ble_eq_true rfl) ?_
  intro p e s R m args below meth c QQ X hRf hRl hret
  obtain ⟨hx, hb, hml, hown, hts, hE⟩ := id X
  intro H ls hR hS hl
  have hl : lv_has ls 4 [(0, .ref o), (1, .int x1), (2, .int x2), (3, .int x3)] := hl
  generalize ([] : List Loc) = locs at hS ⊢
  unfold wM_monomial at hw
  refine lv_iload_n hx hb dX2_monomial_0 rfl (lv_at hl 3 rfl) ?_
  refine lv_i2l hx hb dX2_monomial_1 rfl ?_
  refine lv_lconst (v := 0) hx hb dX2_monomial_2 (by decide) ?_
  refine lv_ldc2 (v := 6) hx hb hown (hts _ q2475) dX2_monomial_3 ?_
  refine mc_si (As := [.long (x3).toInt64, .long (0 : Int64), .long (6 : Int64)]) (rest := []) X (mM_in l (x3).toInt64 (0 : Int64) (6 : Int64) _ hw) (lw_S q2198 q2199 q_ini2 q2200) hd2_in (mm_le hRf rfl) (mm_le hRl rfl) rfl rfl (Nat.le_of_ble_eq_true rfl) dX2_monomial_6 hR hS hl.1 (fun r6 H locs hw hR hS => ?_)
  refine lv_if_ne (tgt := 14) hx hb dX2_monomial_9 (by decide) (fun c_9 => ?_) (fun c_9 => ?_)
  · have hw := hw.2 c_9
    refine lv_aload_n hx hb dX2_monomial_14 rfl (lv_at hl 0 rfl) ?_
    refine lv_iload_n hx hb dX2_monomial_15 rfl (lv_at hl 1 rfl) ?_
    refine lv_iload_n hx hb dX2_monomial_16 rfl (lv_at hl 2 rfl) ?_
    refine mc_vir (As := [.int x1, .int x2]) (rest := []) X (mM_isSide l G o ρ hap σ x1 x2 _ hw) (lw_V q2493 q2495 qs96 q_ini2 q2496) hd2_isSide (mm_le hRf rfl) (mm_le hRl rfl) rfl rfl (Nat.le_of_ble_eq_true rfl) dX2_monomial_17 hR hS hl.1 (fun r17 H locs hw hR hS => ?_)
    obtain ⟨hg, hw⟩ := hw
    have hK20 : ∀ (y20_0 : Int32), y20_0 = (if r17 = 0 then (-2) else (mga σ 42 ((7 * ((mga σ 27 x1.toNatClampNeg) + x2)) + x3).toNatClampNeg)) → ∀ (ls : Array Slot), lv_has ls 4 [] → W p l e R s m args below meth c H locs 0 0 QQ (F0 m 46 ls [.int y20_0]) := by
      intro y20_0 e_y20_0 ls hl
      have hw := hw y20_0 e_y20_0
      exact hret _ _ _ _ _ _ ⟨rfl, hw⟩ hR hS dX2_monomial_46
    refine lv_if_eq (tgt := 44) hx hb dX2_monomial_20 (by decide) (fun c_20 => ?_) (fun c_20 => ?_)
    · have hg := hg.1 c_20
      refine lv_bipush (v := (-2)) hx hb dX2_monomial_44 (by decide) ?_
      exact hK20 _ (if_pos c_20).symm ls (lv_sub hl [] rfl)
    · have hg := hg.2 c_20
      refine lv_aload_n hx hb dX2_monomial_23 rfl (lv_at hl 0 rfl) ?_
      refine mg_42 hx hb hts hown hE hR dX2_monomial_24 ?_
      refine lv_bipush (v := 7) hx hb dX2_monomial_27 (by decide) ?_
      refine lv_aload_n hx hb dX2_monomial_29 rfl (lv_at hl 0 rfl) ?_
      refine mg_27 hx hb hts hown hE hR dX2_monomial_30 ?_
      refine lv_iload_n hx hb dX2_monomial_33 rfl (lv_at hl 1 rfl) ?_
      obtain ⟨hi_34, hg⟩ := hg
      refine ma_27 hx hb hE hR hi_34 dX2_monomial_34 ?_
      refine lv_iload_n hx hb dX2_monomial_35 rfl (lv_at hl 2 rfl) ?_
      refine lv_iadd hx hb dX2_monomial_36 ?_
      refine lv_imul hx hb dX2_monomial_37 ?_
      refine lv_iload_n hx hb dX2_monomial_38 rfl (lv_at hl 3 rfl) ?_
      refine lv_iadd hx hb dX2_monomial_39 ?_
      obtain ⟨hi_40, hg⟩ := hg
      refine ma_42 hx hb hE hR hi_40 dX2_monomial_40 ?_
      refine lv_goto (tgt := 46) hx hb dX2_monomial_41 (by decide) ?_
      exact hK20 _ (if_neg c_20).symm ls (lv_sub hl [] rfl)
  · have hw := hw.1 c_9
    refine lv_iconst (v := (-1)) hx hb dX2_monomial_12 (by decide) ?_
    exact hret _ _ _ _ _ _ ⟨rfl, hw⟩ hR hS dX2_monomial_13
def wM_leaf (σ : mS) (x1 : Int32) (x2 : Int32) (Q : Int32 → Prop) : Prop :=
  wM_in (x2).toInt64 (0 : Int64) (4 : Int64) (fun r6 => ((r6 = 0 → Q ((-1) : Int32)) ∧ (¬ r6 = 0 → (((mgi σ 18) = 0 → Q ((-2) : Int32)) ∧ (¬ (mgi σ 18) = 0 → wM_in (x1).toInt64 (0 : Int64) ((mgi σ 23) - 1).toInt64 (fun r31 => ((r31 = 0 → Q ((-2) : Int32)) ∧ (¬ r31 = 0 → ((x2 = 0 → vp_in x1 20 ∧ (Q (mga σ 44 x1.toNatClampNeg))) ∧ (x2 = 1 → vp_in x1 20 ∧ (Q (mga σ 45 x1.toNatClampNeg))) ∧ (x2 = 2 → vp_in x1 20 ∧ (Q (mga σ 46 x1.toNatClampNeg))) ∧ (x2 = 3 → vp_in x1 20 ∧ (Q (mga σ 47 x1.toNatClampNeg))) ∧ (¬ x2 = 0 → ¬ x2 = 1 → ¬ x2 = 2 → ¬ x2 = 3 → vp_in x1 20 ∧ (Q (mga σ 48 x1.toNatClampNeg))))))))))))
set_option maxHeartbeats 4000000 in
theorem mM_leaf (l : Launch) (G : mG) (o : Nat) (ρ : Nat → Nat) (hap : mAp o ρ) (σ : mS) (x1 : Int32) (x2 : Int32) (Q : Int32 → Prop) (hw : wM_leaf σ x1 x2 Q) : mMetI l G yX2_leaf (ws_ yX2_leaf cX2_leaf 3 (some .int)) 1 25 o ρ [.ref o, .int x1, .int x2] σ (fun r τ => σ = τ ∧ Q r) := by
  refine mo_I plain2 rfl (Nat.le_of_ble_eq_true rfl) ?_
  intro p e s R m args below meth c QQ X hRf hRl hret
  obtain ⟨hx, hb, hml, hown, hts, hE⟩ := id X
  intro H ls hR hS hl
  have hl : lv_has ls 3 [(0, .ref o), (1, .int x1), (2, .int x2)] := hl
  generalize ([] : List Loc) = locs at hS ⊢
  unfold wM_leaf at hw
  refine lv_iload_n hx hb dX2_leaf_0 rfl (lv_at hl 2 rfl) ?_
  refine lv_i2l hx hb dX2_leaf_1 rfl ?_
  refine lv_lconst (v := 0) hx hb dX2_leaf_2 (by decide) ?_
  refine lv_ldc2 (v := 4) hx hb hown (hts _ q2509) dX2_leaf_3 ?_
  refine mc_si (As := [.long (x2).toInt64, .long (0 : Int64), .long (4 : Int64)]) (rest := []) X (mM_in l (x2).toInt64 (0 : Int64) (4 : Int64) _ hw) (lw_S q2198 q2199 q_ini2 q2200) hd2_in (mm_le hRf rfl) (mm_le hRl rfl) rfl rfl (Nat.le_of_ble_eq_true rfl) dX2_leaf_6 hR hS hl.1 (fun r6 H locs hw hR hS => ?_)
  refine lv_if_ne (tgt := 14) hx hb dX2_leaf_9 (by decide) (fun c_9 => ?_) (fun c_9 => ?_)
  · have hw := hw.2 c_9
    refine lv_aload_n hx hb dX2_leaf_14 rfl (lv_at hl 0 rfl) ?_
    refine mg_18 hx hb hts hown hE hR dX2_leaf_15 ?_
    refine lv_if_eq (tgt := 37) hx hb dX2_leaf_18 (by decide) (fun c_18 => ?_) (fun c_18 => ?_)
    · have hw := hw.1 c_18
      refine lv_bipush (v := (-2)) hx hb dX2_leaf_37 (by decide) ?_
      exact hret _ _ _ _ _ _ ⟨rfl, hw⟩ hR hS dX2_leaf_39
    · have hw := hw.2 c_18
      refine lv_iload_n hx hb dX2_leaf_21 rfl (lv_at hl 1 rfl) ?_
      refine lv_i2l hx hb dX2_leaf_22 rfl ?_
      refine lv_lconst (v := 0) hx hb dX2_leaf_23 (by decide) ?_
      refine lv_aload_n hx hb dX2_leaf_24 rfl (lv_at hl 0 rfl) ?_
      refine mg_23 hx hb hts hown hE hR dX2_leaf_25 ?_
      refine lv_iconst (v := 1) hx hb dX2_leaf_28 (by decide) ?_
      refine lv_isub hx hb dX2_leaf_29 ?_
      refine lv_i2l hx hb dX2_leaf_30 rfl ?_
      refine mc_si (As := [.long (x1).toInt64, .long (0 : Int64), .long ((mgi σ 23) - 1).toInt64]) (rest := []) X (mM_in l (x1).toInt64 (0 : Int64) ((mgi σ 23) - 1).toInt64 _ hw) (lw_S q2198 q2199 q_ini2 q2200) hd2_in (mm_le hRf rfl) (mm_le hRl rfl) rfl rfl (Nat.le_of_ble_eq_true rfl) dX2_leaf_31 hR hS hl.1 (fun r31 H locs hw hR hS => ?_)
      refine lv_if_ne (tgt := 40) hx hb dX2_leaf_34 (by decide) (fun c_34 => ?_) (fun c_34 => ?_)
      · have hw := hw.2 c_34
        refine lv_iload_n hx hb dX2_leaf_40 rfl (lv_at hl 2 rfl) ?_
        by_cases c_41_0 : x2 = 0
        · have hw := hw.1 c_41_0
          refine lv_tableIn (off := 31) (tgt := 72) hx hb dX2_leaf_41 (by rw [c_41_0]; decide) (by rw [c_41_0]; decide) (by rw [c_41_0]; rfl) (by decide) ?_
          refine lv_aload_n hx hb dX2_leaf_72 rfl (lv_at hl 0 rfl) ?_
          refine mg_44 hx hb hts hown hE hR dX2_leaf_73 ?_
          refine lv_iload_n hx hb dX2_leaf_76 rfl (lv_at hl 1 rfl) ?_
          obtain ⟨hi_77, hw⟩ := hw
          refine ma_44 hx hb hE hR hi_77 dX2_leaf_77 ?_
          exact hret _ _ _ _ _ _ ⟨rfl, hw⟩ hR hS dX2_leaf_78
        by_cases c_41_1 : x2 = 1
        · have hw := hw.2.1 c_41_1
          refine lv_tableIn (off := 38) (tgt := 79) hx hb dX2_leaf_41 (by rw [c_41_1]; decide) (by rw [c_41_1]; decide) (by rw [c_41_1]; rfl) (by decide) ?_
          refine lv_aload_n hx hb dX2_leaf_79 rfl (lv_at hl 0 rfl) ?_
          refine mg_45 hx hb hts hown hE hR dX2_leaf_80 ?_
          refine lv_iload_n hx hb dX2_leaf_83 rfl (lv_at hl 1 rfl) ?_
          obtain ⟨hi_84, hw⟩ := hw
          refine ma_45 hx hb hE hR hi_84 dX2_leaf_84 ?_
          exact hret _ _ _ _ _ _ ⟨rfl, hw⟩ hR hS dX2_leaf_85
        by_cases c_41_2 : x2 = 2
        · have hw := hw.2.2.1 c_41_2
          refine lv_tableIn (off := 45) (tgt := 86) hx hb dX2_leaf_41 (by rw [c_41_2]; decide) (by rw [c_41_2]; decide) (by rw [c_41_2]; rfl) (by decide) ?_
          refine lv_aload_n hx hb dX2_leaf_86 rfl (lv_at hl 0 rfl) ?_
          refine mg_46 hx hb hts hown hE hR dX2_leaf_87 ?_
          refine lv_iload_n hx hb dX2_leaf_90 rfl (lv_at hl 1 rfl) ?_
          obtain ⟨hi_91, hw⟩ := hw
          refine ma_46 hx hb hE hR hi_91 dX2_leaf_91 ?_
          exact hret _ _ _ _ _ _ ⟨rfl, hw⟩ hR hS dX2_leaf_92
        by_cases c_41_3 : x2 = 3
        · have hw := hw.2.2.2.1 c_41_3
          refine lv_tableIn (off := 52) (tgt := 93) hx hb dX2_leaf_41 (by rw [c_41_3]; decide) (by rw [c_41_3]; decide) (by rw [c_41_3]; rfl) (by decide) ?_
          refine lv_aload_n hx hb dX2_leaf_93 rfl (lv_at hl 0 rfl) ?_
          refine mg_47 hx hb hts hown hE hR dX2_leaf_94 ?_
          refine lv_iload_n hx hb dX2_leaf_97 rfl (lv_at hl 1 rfl) ?_
          obtain ⟨hi_98, hw⟩ := hw
          refine ma_47 hx hb hE hR hi_98 dX2_leaf_98 ?_
          exact hret _ _ _ _ _ _ ⟨rfl, hw⟩ hR hS dX2_leaf_99
        have hw := hw.2.2.2.2 c_41_0 c_41_1 c_41_2 c_41_3
        have t_c_41_0 := lv_neT (a := 0) c_41_0 (by decide)
        have t_c_41_1 := lv_neT (a := 1) c_41_1 (by decide)
        have t_c_41_2 := lv_neT (a := 2) c_41_2 (by decide)
        have t_c_41_3 := lv_neT (a := 3) c_41_3 (by decide)
        refine lv_tableOut (tgt := 100) hx hb dX2_leaf_41 (by omega) (by decide) ?_
        refine lv_aload_n hx hb dX2_leaf_100 rfl (lv_at hl 0 rfl) ?_
        refine mg_48 hx hb hts hown hE hR dX2_leaf_101 ?_
        refine lv_iload_n hx hb dX2_leaf_104 rfl (lv_at hl 1 rfl) ?_
        obtain ⟨hi_105, hw⟩ := hw
        refine ma_48 hx hb hE hR hi_105 dX2_leaf_105 ?_
        exact hret _ _ _ _ _ _ ⟨rfl, hw⟩ hR hS dX2_leaf_106
      · have hw := hw.1 c_34
        refine lv_bipush (v := (-2)) hx hb dX2_leaf_37 (by decide) ?_
        exact hret _ _ _ _ _ _ ⟨rfl, hw⟩ hR hS dX2_leaf_39
  · have hw := hw.1 c_9
    refine lv_iconst (v := (-1)) hx hb dX2_leaf_12 (by decide) ?_
    exact hret _ _ _ _ _ _ ⟨rfl, hw⟩ hR hS dX2_leaf_13
def wM_spelling_j32  (Q : Int32 → Prop) (σ : mS)   : Prop :=
  Q ((-2) : Int32)
def wM_spelling (σ : mS) (x1 : Int32) (Q : Int32 → Prop) : Prop :=
  (((mgi σ 18) = 0 → (wM_spelling_j32  Q σ )) ∧ (¬ (mgi σ 18) = 0 → wM_in (x1).toInt64 (0 : Int64) ((mgi σ 63) - 1).toInt64 (fun r17 => ((r17 = 0 → (wM_spelling_j32  Q σ )) ∧ (¬ r17 = 0 → vp_in x1 160 ∧ (Q (mga σ 62 x1.toNatClampNeg)))))))
set_option maxHeartbeats 4000000 in
theorem mM_spelling (l : Launch) (G : mG) (o : Nat) (ρ : Nat → Nat) (hap : mAp o ρ) (σ : mS) (x1 : Int32) (Q : Int32 → Prop) (hw : wM_spelling σ x1 Q) : mMetI l G yX2_spelling (ws_ yX2_spelling cX2_spelling 2 (some .int)) 1 25 o ρ [.ref o, .int x1] σ (fun r τ => σ = τ ∧ Q r) := by
  refine mo_I plain2 rfl (Nat.le_of_ble_eq_true rfl) ?_
  intro p e s R m args below meth c QQ X hRf hRl hret
  obtain ⟨hx, hb, hml, hown, hts, hE⟩ := id X
  have hJ32 : wM_spelling_j32  Q σ  → ∀ (H : Heap) (locs : List Loc) (ls : Array Slot), mR G o ρ σ H → va_S (mA o ρ) s.heap H locs → lv_has ls 2 [] → W p l e R s m args below meth c H locs 0 0 QQ (F0 m 32 ls []) := by
    intro  hw H locs ls hR hS hl
    unfold wM_spelling_j32 at hw
    refine lv_bipush (v := (-2)) hx hb dX2_spelling_32 (by decide) ?_
    exact hret _ _ _ _ _ _ ⟨rfl, hw⟩ hR hS dX2_spelling_34
  intro H ls hR hS hl
  have hl : lv_has ls 2 [(0, .ref o), (1, .int x1)] := hl
  generalize ([] : List Loc) = locs at hS ⊢
  unfold wM_spelling at hw
  refine lv_aload_n hx hb dX2_spelling_0 rfl (lv_at hl 0 rfl) ?_
  refine mg_18 hx hb hts hown hE hR dX2_spelling_1 ?_
  refine lv_if_eq (tgt := 32) hx hb dX2_spelling_4 (by decide) (fun c_4 => ?_) (fun c_4 => ?_)
  · have hw := hw.1 c_4
    exact hJ32  hw H locs ls hR hS (lv_sub hl [] rfl)
  · have hw := hw.2 c_4
    refine lv_iload_n hx hb dX2_spelling_7 rfl (lv_at hl 1 rfl) ?_
    refine lv_i2l hx hb dX2_spelling_8 rfl ?_
    refine lv_lconst (v := 0) hx hb dX2_spelling_9 (by decide) ?_
    refine lv_aload_n hx hb dX2_spelling_10 rfl (lv_at hl 0 rfl) ?_
    refine mg_63 hx hb hts hown hE hR dX2_spelling_11 ?_
    refine lv_iconst (v := 1) hx hb dX2_spelling_14 (by decide) ?_
    refine lv_isub hx hb dX2_spelling_15 ?_
    refine lv_i2l hx hb dX2_spelling_16 rfl ?_
    refine mc_si (As := [.long (x1).toInt64, .long (0 : Int64), .long ((mgi σ 63) - 1).toInt64]) (rest := []) X (mM_in l (x1).toInt64 (0 : Int64) ((mgi σ 63) - 1).toInt64 _ hw) (lw_S q2198 q2199 q_ini2 q2200) hd2_in (mm_le hRf rfl) (mm_le hRl rfl) rfl rfl (Nat.le_of_ble_eq_true rfl) dX2_spelling_17 hR hS hl.1 (fun r17 H locs hw hR hS => ?_)
    refine lv_if_eq (tgt := 32) hx hb dX2_spelling_20 (by decide) (fun c_20 => ?_) (fun c_20 => ?_)
    · have hw := hw.1 c_20
      exact hJ32  hw H locs ls hR hS (lv_sub hl [] rfl)
    · have hw := hw.2 c_20
      refine lv_aload_n hx hb dX2_spelling_23 rfl (lv_at hl 0 rfl) ?_
      refine mg_62 hx hb hts hown hE hR dX2_spelling_24 ?_
      refine lv_iload_n hx hb dX2_spelling_27 rfl (lv_at hl 1 rfl) ?_
      obtain ⟨hi_28, hw⟩ := hw
      refine ma_62 hx hb hE hR hi_28 dX2_spelling_28 ?_
      refine lv_goto (tgt := 34) hx hb dX2_spelling_29 (by decide) ?_
      exact hret _ _ _ _ _ _ ⟨rfl, hw⟩ hR hS dX2_spelling_34
def wM_wordHere_j63 (rec4 : Int64 → Int32 → Prop) (Q : Int32 → Prop) (σ : mS) (x3 : Int32)  : Prop :=
  rec4 ((-1) : Int64) (x3 + 1)
def wM_wordHere_l4  (Q : Int32 → Prop) (σ : mS)  : Nat → Int64 → Int32 → Prop
  | 0, _, _ => False
  | n + 1, x1, x3 => (((mgi σ 5) ≤ x3 → ((x1 = (6132907 : Int64) → Q (0 : Int32)) ∧ (¬ x1 = (6132907 : Int64) → ((x1 = (174879964 : Int64) → Q (1 : Int32)) ∧ (¬ x1 = (174879964 : Int64) → ∀ y101_0 : Int32, y101_0 = (if x1 = (5061606 : Int64) then 2 else (if x1 = (307058 : Int64) then 3 else (if x1 = (459598 : Int64) then 4 else (if x1 = (175281103 : Int64) then 5 else (if x1 = (381245 : Int64) then 6 else (if x1 = (60203876 : Int64) then 7 else (if x1 = (8864267 : Int64) then 8 else (-1)))))))) → Q y101_0))))) ∧ (¬ (mgi σ 5) ≤ x3 → (((8 : Int32) ≤ x3 → (wM_wordHere_j63 (fun z1 z3 => wM_wordHere_l4  Q σ  n z1 z3) Q σ x3)) ∧ (¬ (8 : Int32) ≤ x3 → vp_in x3 80 ∧ (wM_in (mga σ 4 x3.toNatClampNeg).toInt64 (97 : Int64) (122 : Int64) (fun r31 => ((r31 = 0 → (wM_wordHere_j63 (fun z1 z3 => wM_wordHere_l4  Q σ  n z1 z3) Q σ x3)) ∧ (¬ r31 = 0 → ((x1 < (0 : Int64) → (wM_wordHere_j63 (fun z1 z3 => wM_wordHere_l4  Q σ  n z1 z3) Q σ x3)) ∧ (¬ x1 < (0 : Int64) → vp_in x3 80 ∧ (wM_wordHere_l4  Q σ  n (((27 * x1) + (mga σ 4 x3.toNatClampNeg).toInt64) - 96) (x3 + 1))))))))))))
def wM_wordHere (σ : mS)  (Q : Int32 → Prop) : Prop :=
  (∃ k4 : Nat, wM_wordHere_l4  Q σ  k4 (0 : Int64) (0 : Int32))
set_option maxHeartbeats 4000000 in
theorem mM_wordHere (l : Launch) (G : mG) (o : Nat) (ρ : Nat → Nat) (hap : mAp o ρ) (σ : mS)  (Q : Int32 → Prop) (hw : wM_wordHere σ  Q) : mMetI l G yX2_wordHere (ws_ yX2_wordHere cX2_wordHere 4 (some .int)) 1 25 o ρ [.ref o] σ (fun r τ => σ = τ ∧ Q r) := by
  refine mo_I plain2 rfl (Nat.le_of_ble_eq_true rfl) ?_
  intro p e s R m args below meth c QQ X hRf hRl hret
  obtain ⟨hx, hb, hml, hown, hts, hE⟩ := id X
  have hL4 : ∀ (n4 : Nat) (x1 : Int64) (x3 : Int32), wM_wordHere_l4  Q σ  n4 x1 x3 → ∀ (H : Heap) (locs : List Loc) (ls : Array Slot), mR G o ρ σ H → va_S (mA o ρ) s.heap H locs → lv_has ls 4 [(0, .ref o), (1, .long x1), (3, .int x3)] → W p l e R s m args below meth c H locs 0 0 QQ (F0 m 4 ls []) := by
    intro  n4
    induction n4 with
    | zero => intro x1 x3 hw; exact hw.elim
    | succ n4 ih4 =>
      have hJ63 : ∀ (x3 : Int32), wM_wordHere_j63 (wM_wordHere_l4  Q σ  n4) Q σ x3 → ∀ (H : Heap) (locs : List Loc) (ls : Array Slot), mR G o ρ σ H → va_S (mA o ρ) s.heap H locs → lv_has ls 4 [(0, .ref o), (3, .int x3)] → W p l e R s m args below meth c H locs 0 0 QQ (F0 m 63 ls []) := by
        intro x3 hw H locs ls hR hS hl
        unfold wM_wordHere_j63 at hw
        refine lv_ldc2 (v := (-1)) hx hb hown (hts _ q2292) dX2_wordHere_63 ?_
        refine lv_lstore_n (lv' := [(1, .long (-1)), (0, .ref o), (3, .int x3)]) hx hb dX2_wordHere_66 rfl hl (by decide) rfl (fun ls hl => ?_)
        refine lv_iinc (k := 2) (lv' := [(3, .int (x3 + 1)), (1, .long (-1)), (0, .ref o)]) hx hb dX2_wordHere_67 hl rfl (congrArg (x3 + ·) (by decide : Int32.ofInt 1 = 1)) (by decide) rfl (fun ls hl => ?_)
        refine lv_goto (tgt := 4) hx hb dX2_wordHere_70 (by decide) ?_
        exact ih4 ((-1) : Int64) (x3 + 1) hw H locs ls hR hS (lv_sub hl [2, 1, 0] rfl)
      intro x1 x3 hw H locs ls hR hS hl
      rw [wM_wordHere_l4] at hw
      refine lv_iload_n hx hb dX2_wordHere_4 rfl (lv_at hl 2 rfl) ?_
      refine lv_aload_n hx hb dX2_wordHere_5 rfl (lv_at hl 0 rfl) ?_
      refine mg_5 hx hb hts hown hE hR dX2_wordHere_6 ?_
      refine lv_icmp_ge (tgt := 73) hx hb dX2_wordHere_9 (by decide) (fun c_9 => ?_) (fun c_9 => ?_)
      · have hw := hw.1 c_9
        refine lv_lload_n hx hb dX2_wordHere_73 rfl (lv_at hl 1 rfl) ?_
        refine lv_ldc2 (v := 6132907) hx hb hown (hts _ q2526) dX2_wordHere_74 ?_
        refine mm_lcne (p1 := 78) (tgt := 85) hx hb dX2_wordHere_77 rfl dX2_wordHere_78 (by decide) (fun c_77 => ?_) (fun c_77 => ?_)
        · have hw := hw.2 c_77
          refine lv_lload_n hx hb dX2_wordHere_85 rfl (lv_at hl 1 rfl) ?_
          refine lv_ldc2 (v := 174879964) hx hb hown (hts _ q2527) dX2_wordHere_86 ?_
          refine mm_lcne (p1 := 90) (tgt := 97) hx hb dX2_wordHere_89 rfl dX2_wordHere_90 (by decide) (fun c_89 => ?_) (fun c_89 => ?_)
          · have hw := hw.2 c_89
            refine lv_lload_n hx hb dX2_wordHere_97 rfl (lv_at hl 1 rfl) ?_
            refine lv_ldc2 (v := 5061606) hx hb hown (hts _ q2528) dX2_wordHere_98 ?_
            have hK101 : ∀ (y101_0 : Int32), y101_0 = (if x1 = (5061606 : Int64) then 2 else (if x1 = (307058 : Int64) then 3 else (if x1 = (459598 : Int64) then 4 else (if x1 = (175281103 : Int64) then 5 else (if x1 = (381245 : Int64) then 6 else (if x1 = (60203876 : Int64) then 7 else (if x1 = (8864267 : Int64) then 8 else (-1)))))))) → ∀ (ls : Array Slot), lv_has ls 4 [] → W p l e R s m args below meth c H locs 0 0 QQ (F0 m 185 ls [.int y101_0]) := by
              intro y101_0 e_y101_0 ls hl
              have hw := hw y101_0 e_y101_0
              exact hret _ _ _ _ _ _ ⟨rfl, hw⟩ hR hS dX2_wordHere_185
            refine mm_lcne (p1 := 102) (tgt := 109) hx hb dX2_wordHere_101 rfl dX2_wordHere_102 (by decide) (fun c_101 => ?_) (fun c_101 => ?_)
            · refine lv_lload_n hx hb dX2_wordHere_109 rfl (lv_at hl 1 rfl) ?_
              refine lv_ldc2 (v := 307058) hx hb hown (hts _ q2529) dX2_wordHere_110 ?_
              refine mm_lcne (p1 := 114) (tgt := 121) hx hb dX2_wordHere_113 rfl dX2_wordHere_114 (by decide) (fun c_113 => ?_) (fun c_113 => ?_)
              · refine lv_lload_n hx hb dX2_wordHere_121 rfl (lv_at hl 1 rfl) ?_
                refine lv_ldc2 (v := 459598) hx hb hown (hts _ q2530) dX2_wordHere_122 ?_
                refine mm_lcne (p1 := 126) (tgt := 133) hx hb dX2_wordHere_125 rfl dX2_wordHere_126 (by decide) (fun c_125 => ?_) (fun c_125 => ?_)
                · refine lv_lload_n hx hb dX2_wordHere_133 rfl (lv_at hl 1 rfl) ?_
                  refine lv_ldc2 (v := 175281103) hx hb hown (hts _ q2531) dX2_wordHere_134 ?_
                  refine mm_lcne (p1 := 138) (tgt := 145) hx hb dX2_wordHere_137 rfl dX2_wordHere_138 (by decide) (fun c_137 => ?_) (fun c_137 => ?_)
                  · refine lv_lload_n hx hb dX2_wordHere_145 rfl (lv_at hl 1 rfl) ?_
                    refine lv_ldc2 (v := 381245) hx hb hown (hts _ q2532) dX2_wordHere_146 ?_
                    refine mm_lcne (p1 := 150) (tgt := 158) hx hb dX2_wordHere_149 rfl dX2_wordHere_150 (by decide) (fun c_149 => ?_) (fun c_149 => ?_)
                    · refine lv_lload_n hx hb dX2_wordHere_158 rfl (lv_at hl 1 rfl) ?_
                      refine lv_ldc2 (v := 60203876) hx hb hown (hts _ q2533) dX2_wordHere_159 ?_
                      refine mm_lcne (p1 := 163) (tgt := 171) hx hb dX2_wordHere_162 rfl dX2_wordHere_163 (by decide) (fun c_162 => ?_) (fun c_162 => ?_)
                      · refine lv_lload_n hx hb dX2_wordHere_171 rfl (lv_at hl 1 rfl) ?_
                        refine lv_ldc2 (v := 8864267) hx hb hown (hts _ q2534) dX2_wordHere_172 ?_
                        refine mm_lcne (p1 := 176) (tgt := 184) hx hb dX2_wordHere_175 rfl dX2_wordHere_176 (by decide) (fun c_175 => ?_) (fun c_175 => ?_)
                        · refine lv_iconst (v := (-1)) hx hb dX2_wordHere_184 (by decide) ?_
                          exact hK101 _ (((((((if_neg c_175).symm.trans (if_neg c_162).symm).trans (if_neg c_149).symm).trans (if_neg c_137).symm).trans (if_neg c_125).symm).trans (if_neg c_113).symm).trans (if_neg c_101).symm) ls (lv_sub hl [] rfl)
                        · refine lv_bipush (v := 8) hx hb dX2_wordHere_179 (by decide) ?_
                          refine lv_goto (tgt := 185) hx hb dX2_wordHere_181 (by decide) ?_
                          exact hK101 _ (((((((if_pos c_175).symm.trans (if_neg c_162).symm).trans (if_neg c_149).symm).trans (if_neg c_137).symm).trans (if_neg c_125).symm).trans (if_neg c_113).symm).trans (if_neg c_101).symm) ls (lv_sub hl [] rfl)
                      · refine lv_bipush (v := 7) hx hb dX2_wordHere_166 (by decide) ?_
                        refine lv_goto (tgt := 185) hx hb dX2_wordHere_168 (by decide) ?_
                        exact hK101 _ ((((((if_pos c_162).symm.trans (if_neg c_149).symm).trans (if_neg c_137).symm).trans (if_neg c_125).symm).trans (if_neg c_113).symm).trans (if_neg c_101).symm) ls (lv_sub hl [] rfl)
                    · refine lv_bipush (v := 6) hx hb dX2_wordHere_153 (by decide) ?_
                      refine lv_goto (tgt := 185) hx hb dX2_wordHere_155 (by decide) ?_
                      exact hK101 _ (((((if_pos c_149).symm.trans (if_neg c_137).symm).trans (if_neg c_125).symm).trans (if_neg c_113).symm).trans (if_neg c_101).symm) ls (lv_sub hl [] rfl)
                  · refine lv_iconst (v := 5) hx hb dX2_wordHere_141 (by decide) ?_
                    refine lv_goto (tgt := 185) hx hb dX2_wordHere_142 (by decide) ?_
                    exact hK101 _ ((((if_pos c_137).symm.trans (if_neg c_125).symm).trans (if_neg c_113).symm).trans (if_neg c_101).symm) ls (lv_sub hl [] rfl)
                · refine lv_iconst (v := 4) hx hb dX2_wordHere_129 (by decide) ?_
                  refine lv_goto (tgt := 185) hx hb dX2_wordHere_130 (by decide) ?_
                  exact hK101 _ (((if_pos c_125).symm.trans (if_neg c_113).symm).trans (if_neg c_101).symm) ls (lv_sub hl [] rfl)
              · refine lv_iconst (v := 3) hx hb dX2_wordHere_117 (by decide) ?_
                refine lv_goto (tgt := 185) hx hb dX2_wordHere_118 (by decide) ?_
                exact hK101 _ ((if_pos c_113).symm.trans (if_neg c_101).symm) ls (lv_sub hl [] rfl)
            · refine lv_iconst (v := 2) hx hb dX2_wordHere_105 (by decide) ?_
              refine lv_goto (tgt := 185) hx hb dX2_wordHere_106 (by decide) ?_
              exact hK101 _ (if_pos c_101).symm ls (lv_sub hl [] rfl)
          · have hw := hw.1 c_89
            refine lv_iconst (v := 1) hx hb dX2_wordHere_93 (by decide) ?_
            refine lv_goto (tgt := 185) hx hb dX2_wordHere_94 (by decide) ?_
            exact hret _ _ _ _ _ _ ⟨rfl, hw⟩ hR hS dX2_wordHere_185
        · have hw := hw.1 c_77
          refine lv_iconst (v := 0) hx hb dX2_wordHere_81 (by decide) ?_
          refine lv_goto (tgt := 185) hx hb dX2_wordHere_82 (by decide) ?_
          exact hret _ _ _ _ _ _ ⟨rfl, hw⟩ hR hS dX2_wordHere_185
      · have hw := hw.2 c_9
        refine lv_iload_n hx hb dX2_wordHere_12 rfl (lv_at hl 2 rfl) ?_
        refine lv_bipush (v := 8) hx hb dX2_wordHere_13 (by decide) ?_
        refine lv_icmp_ge (tgt := 63) hx hb dX2_wordHere_15 (by decide) (fun c_15 => ?_) (fun c_15 => ?_)
        · have hw := hw.1 c_15
          exact hJ63 x3 hw H locs ls hR hS (lv_sub hl [0, 2] rfl)
        · have hw := hw.2 c_15
          refine lv_aload_n hx hb dX2_wordHere_18 rfl (lv_at hl 0 rfl) ?_
          refine mg_4 hx hb hts hown hE hR dX2_wordHere_19 ?_
          refine lv_iload_n hx hb dX2_wordHere_22 rfl (lv_at hl 2 rfl) ?_
          obtain ⟨hi_23, hw⟩ := hw
          refine ma_4 hx hb hE hR hi_23 dX2_wordHere_23 ?_
          refine lv_i2l hx hb dX2_wordHere_24 rfl ?_
          refine lv_ldc2 (v := 97) hx hb hown (hts _ q2522) dX2_wordHere_25 ?_
          refine lv_ldc2 (v := 122) hx hb hown (hts _ q2523) dX2_wordHere_28 ?_
          refine mc_si (As := [.long (mga σ 4 x3.toNatClampNeg).toInt64, .long (97 : Int64), .long (122 : Int64)]) (rest := []) X (mM_in l (mga σ 4 x3.toNatClampNeg).toInt64 (97 : Int64) (122 : Int64) _ hw) (lw_S q2198 q2199 q_ini2 q2200) hd2_in (mm_le hRf rfl) (mm_le hRl rfl) rfl rfl (Nat.le_of_ble_eq_true rfl) dX2_wordHere_31 hR hS hl.1 (fun r31 H locs hw hR hS => ?_)
          refine lv_if_eq (tgt := 63) hx hb dX2_wordHere_34 (by decide) (fun c_34 => ?_) (fun c_34 => ?_)
          · have hw := hw.1 c_34
            exact hJ63 x3 hw H locs ls hR hS (lv_sub hl [0, 2] rfl)
          · have hw := hw.2 c_34
            refine lv_lload_n hx hb dX2_wordHere_37 rfl (lv_at hl 1 rfl) ?_
            refine lv_lconst (v := 0) hx hb dX2_wordHere_38 (by decide) ?_
            refine mm_lclt (p1 := 40) (tgt := 63) hx hb dX2_wordHere_39 rfl dX2_wordHere_40 (by decide) (fun c_39 => ?_) (fun c_39 => ?_)
            · have hw := hw.1 c_39
              exact hJ63 x3 hw H locs ls hR hS (lv_sub hl [0, 2] rfl)
            · have hw := hw.2 c_39
              refine lv_ldc2 (v := 27) hx hb hown (hts _ q2524) dX2_wordHere_43 ?_
              refine lv_lload_n hx hb dX2_wordHere_46 rfl (lv_at hl 1 rfl) ?_
              refine lv_lmul hx hb dX2_wordHere_47 ?_
              refine lv_aload_n hx hb dX2_wordHere_48 rfl (lv_at hl 0 rfl) ?_
              refine mg_4 hx hb hts hown hE hR dX2_wordHere_49 ?_
              refine lv_iload_n hx hb dX2_wordHere_52 rfl (lv_at hl 2 rfl) ?_
              obtain ⟨hi_53, hw⟩ := hw
              refine ma_4 hx hb hE hR hi_53 dX2_wordHere_53 ?_
              refine lv_i2l hx hb dX2_wordHere_54 rfl ?_
              refine lv_ladd hx hb dX2_wordHere_55 ?_
              refine lv_ldc2 (v := 96) hx hb hown (hts _ q2525) dX2_wordHere_56 ?_
              refine lv_lsub hx hb dX2_wordHere_59 ?_
              refine lv_goto (tgt := 66) hx hb dX2_wordHere_60 (by decide) ?_
              refine lv_lstore_n (lv' := [(1, .long (((27 * x1) + (mga σ 4 x3.toNatClampNeg).toInt64) - 96)), (0, .ref o), (3, .int x3)]) hx hb dX2_wordHere_66 rfl hl (by decide) rfl (fun ls hl => ?_)
              refine lv_iinc (k := 2) (lv' := [(3, .int (x3 + 1)), (1, .long (((27 * x1) + (mga σ 4 x3.toNatClampNeg).toInt64) - 96)), (0, .ref o)]) hx hb dX2_wordHere_67 hl rfl (congrArg (x3 + ·) (by decide : Int32.ofInt 1 = 1)) (by decide) rfl (fun ls hl => ?_)
              refine lv_goto (tgt := 4) hx hb dX2_wordHere_70 (by decide) ?_
              exact ih4 (((27 * x1) + (mga σ 4 x3.toNatClampNeg).toInt64) - 96) (x3 + 1) hw H locs ls hR hS (lv_sub hl [2, 1, 0] rfl)
  intro H ls hR hS hl
  have hl : lv_has ls 4 [(0, .ref o)] := hl
  generalize ([] : List Loc) = locs at hS ⊢
  unfold wM_wordHere at hw
  refine lv_lconst (v := 0) hx hb dX2_wordHere_0 (by decide) ?_
  refine lv_lstore_n (lv' := [(1, .long 0), (0, .ref o)]) hx hb dX2_wordHere_1 rfl hl (by decide) rfl (fun ls hl => ?_)
  refine lv_iconst (v := 0) hx hb dX2_wordHere_2 (by decide) ?_
  refine lv_istore_n (lv' := [(3, .int 0), (1, .long 0), (0, .ref o)]) hx hb dX2_wordHere_3 rfl hl (by decide) rfl (fun ls hl => ?_)
  obtain ⟨n4, hw⟩ := hw
  exact hL4  n4 (0 : Int64) (0 : Int32) hw H locs ls hR hS (lv_sub hl [2, 1, 0] rfl)
def wM_ask (σ : mS)  (Q : Int32 → mS → Prop) : Prop :=
  wM_wordHere σ  (fun r1 => ∀ σ7 : mS, σ7 = mpi σ 5 0 → ((0 ≤ r1 → ((r1 = (8 : Int32) → Q (mgi σ7 0) σ7) ∧ (¬ r1 = (8 : Int32) → (((mgi σ7 18) = 0 → Q ((-2) : Int32) σ7) ∧ (¬ (mgi σ7 18) = 0 → wM_asked σ7 r1 (fun r39 => Q r39 σ7)))))) ∧ (¬ 0 ≤ r1 → Q ((-3) : Int32) σ7)))
set_option maxHeartbeats 4000000 in
theorem mM_ask (l : Launch) (G : mG) (o : Nat) (ρ : Nat → Nat) (hap : mAp o ρ) (σ : mS)  (Q : Int32 → mS → Prop) (hw : wM_ask σ  Q) : mMetI l G yX2_ask (ws_ yX2_ask cX2_ask 2 (some .int)) 2 48 o ρ [.ref o] σ Q := by
  refine mo_I plain2 rfl (Nat.le_of_ble_eq_true rfl) ?_
  intro p e s R m args below meth c QQ X hRf hRl hret
  obtain ⟨hx, hb, hml, hown, hts, hE⟩ := id X
  intro H ls hR hS hl
  have hl : lv_has ls 2 [(0, .ref o)] := hl
  generalize ([] : List Loc) = locs at hS ⊢
  unfold wM_ask at hw
  refine lv_aload_n hx hb dX2_ask_0 rfl (lv_at hl 0 rfl) ?_
  refine mc_vir (As := []) (rest := []) X (mM_wordHere l G o ρ hap σ  _ hw) (lw_V q2518 q2520 qs97 q_ini2 q2521) hd2_wordHere (mm_le hRf rfl) (mm_le hRl rfl) rfl rfl (Nat.le_of_ble_eq_true rfl) dX2_ask_1 hR hS hl.1 (fun r1 H locs hw hR hS => ?_)
  refine lv_istore_n (lv' := [(1, .int r1), (0, .ref o)]) hx hb dX2_ask_4 rfl hl (by decide) rfl (fun ls hl => ?_)
  refine lv_aload_n hx hb dX2_ask_5 rfl (lv_at hl 1 rfl) ?_
  refine lv_iconst (v := 0) hx hb dX2_ask_6 (by decide) ?_
  refine mp_5 hx hb hts hown hE hap hR hS dX2_ask_7 (fun σ7 e_σ7 H locs hR hS => ?_)
  have hw := hw σ7 e_σ7
  clear e_σ7
  refine lv_iload_n hx hb dX2_ask_10 rfl (lv_at hl 0 rfl) ?_
  refine lv_if_ge (tgt := 17) hx hb dX2_ask_11 (by decide) (fun c_11 => ?_) (fun c_11 => ?_)
  · have hw := hw.1 c_11
    refine lv_iload_n hx hb dX2_ask_17 rfl (lv_at hl 0 rfl) ?_
    refine lv_bipush (v := 8) hx hb dX2_ask_18 (by decide) ?_
    refine lv_icmp_ne (tgt := 30) hx hb dX2_ask_20 (by decide) (fun c_20 => ?_) (fun c_20 => ?_)
    · have hw := hw.2 c_20
      refine lv_aload_n hx hb dX2_ask_30 rfl (lv_at hl 1 rfl) ?_
      refine mg_18 hx hb hts hown hE hR dX2_ask_31 ?_
      refine lv_if_eq (tgt := 45) hx hb dX2_ask_34 (by decide) (fun c_34 => ?_) (fun c_34 => ?_)
      · have hw := hw.1 c_34
        refine lv_bipush (v := (-2)) hx hb dX2_ask_45 (by decide) ?_
        exact hret _ _ _ _ _ _ hw hR hS dX2_ask_47
      · have hw := hw.2 c_34
        refine lv_aload_n hx hb dX2_ask_37 rfl (lv_at hl 1 rfl) ?_
        refine lv_iload_n hx hb dX2_ask_38 rfl (lv_at hl 0 rfl) ?_
        refine mc_vir (As := [.int r1]) (rest := []) X (mM_asked l G o ρ hap σ7 r1 _ hw) (lw_V q2467 q2469 qs94 q_ini2 q2470) hd2_asked (mm_le hRf rfl) (mm_le hRl rfl) rfl rfl (Nat.le_of_ble_eq_true rfl) dX2_ask_39 hR hS hl.1 (fun r39 H locs hw hR hS => ?_)
        refine lv_goto (tgt := 47) hx hb dX2_ask_42 (by decide) ?_
        exact hret _ _ _ _ _ _ hw hR hS dX2_ask_47
    · have hw := hw.1 c_20
      refine lv_aload_n hx hb dX2_ask_23 rfl (lv_at hl 1 rfl) ?_
      refine mg_0 hx hb hts hown hE hR dX2_ask_24 ?_
      refine lv_goto (tgt := 47) hx hb dX2_ask_27 (by decide) ?_
      exact hret _ _ _ _ _ _ hw hR hS dX2_ask_47
  · have hw := hw.2 c_11
    refine lv_bipush (v := (-3)) hx hb dX2_ask_14 (by decide) ?_
    exact hret _ _ _ _ _ _ hw hR hS dX2_ask_16
def wM_isSheet  (x0 : Int32) (Q : Int32 → Prop) : Prop :=
  ∀ y1_0 : Int32, y1_0 = (if x0 < 0 then 0 else (if (4 : Int32) ≤ x0 then 0 else 1)) → (y1_0 = 0 ∨ y1_0 = 1) ∧ Q y1_0
set_option maxHeartbeats 4000000 in
theorem mM_isSheet (l : Launch) (x0 : Int32) (Q : Int32 → Prop) (hw : wM_isSheet x0 Q) : mMetS l yX2_isSheet (ws_ yX2_isSheet cX2_isSheet 1 (some .boolean)) 0 0 [.int x0] Q := by
  refine mo_SZ plain2 (Nat.le_of_ble_eq_true rfl) ?_
  intro p e s R m args below meth c QQ X hRf hRl hret
  have X : sCtx p s m args c RX2 cX2_isSheet 1 := X
  obtain ⟨hx, hb, hml, hown, hts⟩ := id X
  intro H ls hS hl
  have hl : lv_has ls 1 [(0, .int x0)] := hl
  generalize ([] : List Loc) = locs at hS ⊢
  unfold wM_isSheet at hw
  refine lv_iload_n hx hb dX2_isSheet_0 rfl (lv_at hl 0 rfl) ?_
  have hK1 : ∀ (y1_0 : Int32), y1_0 = (if x0 < 0 then 0 else (if (4 : Int32) ≤ x0 then 0 else 1)) → ∀ (ls : Array Slot), lv_has ls 1 [] → W p l e R s m args below meth c H locs 0 0 QQ (F0 m 14 ls [.int y1_0]) := by
    intro y1_0 e_y1_0 ls hl
    have hw := hw y1_0 e_y1_0
    obtain ⟨hz, hw⟩ := hw
    exact hret _ _ _ _ _ hw hz hS dX2_isSheet_14
  refine lv_if_lt (tgt := 13) hx hb dX2_isSheet_1 (by decide) (fun c_1 => ?_) (fun c_1 => ?_)
  · refine lv_iconst (v := 0) hx hb dX2_isSheet_13 (by decide) ?_
    exact hK1 _ (if_pos c_1).symm ls (lv_sub hl [] rfl)
  · refine lv_iload_n hx hb dX2_isSheet_4 rfl (lv_at hl 0 rfl) ?_
    refine lv_iconst (v := 4) hx hb dX2_isSheet_5 (by decide) ?_
    refine lv_icmp_ge (tgt := 13) hx hb dX2_isSheet_6 (by decide) (fun c_6 => ?_) (fun c_6 => ?_)
    · refine lv_iconst (v := 0) hx hb dX2_isSheet_13 (by decide) ?_
      exact hK1 _ ((if_pos c_6).symm.trans (if_neg c_1).symm) ls (lv_sub hl [] rfl)
    · refine lv_iconst (v := 1) hx hb dX2_isSheet_9 (by decide) ?_
      refine lv_goto (tgt := 14) hx hb dX2_isSheet_10 (by decide) ?_
      exact hK1 _ ((if_neg c_6).symm.trans (if_neg c_1).symm) ls (lv_sub hl [] rfl)
def wM_item0 (σ : mS) (x1 : Int32) (x2 : Int32) (Q : Int64 → Prop) : Prop :=
  vp_in ((40 * x1) + x2) 160 ∧ (Q (mga σ 66 ((40 * x1) + x2).toNatClampNeg).toInt64)
set_option maxHeartbeats 4000000 in
theorem mM_item0 (l : Launch) (G : mG) (o : Nat) (ρ : Nat → Nat) (hap : mAp o ρ) (σ : mS) (x1 : Int32) (x2 : Int32) (Q : Int64 → Prop) (hw : wM_item0 σ x1 x2 Q) : mMetL l G yX2_item0 (ws_ yX2_item0 cX2_item0 3 (some .long)) 0 0 o ρ [.ref o, .int x1, .int x2] σ (fun r τ => σ = τ ∧ Q r) := by
  refine mo_L plain2 rfl (Nat.le_of_ble_eq_true rfl) ?_
  intro p e s R m args below meth c QQ X hRf hRl hret
  obtain ⟨hx, hb, hml, hown, hts, hE⟩ := id X
  intro H ls hR hS hl
  have hl : lv_has ls 3 [(0, .ref o), (1, .int x1), (2, .int x2)] := hl
  generalize ([] : List Loc) = locs at hS ⊢
  unfold wM_item0 at hw
  refine lv_aload_n hx hb dX2_item0_0 rfl (lv_at hl 0 rfl) ?_
  refine mg_66 hx hb hts hown hE hR dX2_item0_1 ?_
  refine lv_bipush (v := 40) hx hb dX2_item0_4 (by decide) ?_
  refine lv_iload_n hx hb dX2_item0_6 rfl (lv_at hl 1 rfl) ?_
  refine lv_imul hx hb dX2_item0_7 ?_
  refine lv_iload_n hx hb dX2_item0_8 rfl (lv_at hl 2 rfl) ?_
  refine lv_iadd hx hb dX2_item0_9 ?_
  obtain ⟨hi_10, hw⟩ := hw
  refine ma_66 hx hb hE hR hi_10 dX2_item0_10 ?_
  refine lv_i2l hx hb dX2_item0_11 rfl ?_
  exact hret _ _ _ _ _ _ ⟨rfl, hw⟩ hR hS dX2_item0_12
def wM_goesOn_j85 (rec7 : Int32 → Int32 → Prop) (Q : Int32 → Prop) (σ : mS) (x1 : Int32) (x2 : Int32) (x3 : Int32) (x4 : Int32) (s0 : Int32) : Prop :=
  ∀ y89_0 : Int32, y89_0 = (if s0 = 0 then x3 else x4) → rec7 y89_0 (x4 + 1)
def wM_goesOn_j80 (rec7 : Int32 → Int32 → Prop) (Q : Int32 → Prop) (σ : mS) (x1 : Int32) (x2 : Int32) (x3 : Int32) (x4 : Int32)  : Prop :=
  (wM_goesOn_j85 rec7 Q σ x1 x2 x3 x4 (1 : Int32))
def wM_goesOn_l7  (Q : Int32 → Prop) (σ : mS) (x1 : Int32) (x2 : Int32) : Nat → Int32 → Int32 → Prop
  | 0, _, _ => False
  | n + 1, x3, x4 => vp_in x1 4 ∧ ((((mga σ 65 x1.toNatClampNeg) ≤ x4 → Q x3) ∧ (¬ (mga σ 65 x1.toNatClampNeg) ≤ x4 → wM_item0 σ x1 x4 (fun r22 => ((r22 < (0 : Int64) → wM_goesOn_l7  Q σ x1 x2 n x3 (x4 + 1)) ∧ (¬ r22 < (0 : Int64) → wM_item0 σ x1 x4 (fun r34 => wM_item0 σ x1 x2 (fun r40 => ((x3 < 0 → (wM_goesOn_j80 (fun z3 z4 => wM_goesOn_l7  Q σ x1 x2 n z3 z4) Q σ x1 x2 x3 x4)) ∧ (¬ x3 < 0 → wM_item0 σ x1 x3 (fun r60 => wM_item0 σ x1 x2 (fun r66 => ((((r60 - r66) * (x4 - x2).toInt64) < ((r34 - r40) * (x3 - x2).toInt64) → (wM_goesOn_j85 (fun z3 z4 => wM_goesOn_l7  Q σ x1 x2 n z3 z4) Q σ x1 x2 x3 x4 (0 : Int32))) ∧ (¬ ((r60 - r66) * (x4 - x2).toInt64) < ((r34 - r40) * (x3 - x2).toInt64) → (wM_goesOn_j80 (fun z3 z4 => wM_goesOn_l7  Q σ x1 x2 n z3 z4) Q σ x1 x2 x3 x4)))))))))))))))
def wM_goesOn (σ : mS) (x1 : Int32) (x2 : Int32) (Q : Int32 → Prop) : Prop :=
  (∃ k7 : Nat, wM_goesOn_l7  Q σ x1 x2 k7 ((-1) : Int32) (x2 + 1))
set_option maxHeartbeats 4000000 in
theorem mM_goesOn (l : Launch) (G : mG) (o : Nat) (ρ : Nat → Nat) (hap : mAp o ρ) (σ : mS) (x1 : Int32) (x2 : Int32) (Q : Int32 → Prop) (hw : wM_goesOn σ x1 x2 Q) : mMetI l G yX2_goesOn (ws_ yX2_goesOn cX2_goesOn 8 (some .int)) 1 22 o ρ [.ref o, .int x1, .int x2] σ (fun r τ => σ = τ ∧ Q r) := by
  refine mo_I plain2 rfl (Nat.le_of_ble_eq_true rfl) ?_
  intro p e s R m args below meth c QQ X hRf hRl hret
  obtain ⟨hx, hb, hml, hown, hts, hE⟩ := id X
  have hL7 : ∀ (x1 : Int32) (x2 : Int32) (n7 : Nat) (x3 : Int32) (x4 : Int32), wM_goesOn_l7  Q σ x1 x2 n7 x3 x4 → ∀ (H : Heap) (locs : List Loc) (ls : Array Slot), mR G o ρ σ H → va_S (mA o ρ) s.heap H locs → lv_has ls 8 [(0, .ref o), (1, .int x1), (2, .int x2), (3, .int x3), (4, .int x4)] → W p l e R s m args below meth c H locs 0 0 QQ (F0 m 7 ls []) := by
    intro x1 x2 n7
    induction n7 with
    | zero => intro x3 x4 hw; exact hw.elim
    | succ n7 ih7 =>
      have hJ85 : ∀ (x3 : Int32) (x4 : Int32) (s0 : Int32), wM_goesOn_j85 (wM_goesOn_l7  Q σ x1 x2 n7) Q σ x1 x2 x3 x4 s0 → ∀ (H : Heap) (locs : List Loc) (ls : Array Slot), mR G o ρ σ H → va_S (mA o ρ) s.heap H locs → lv_has ls 8 [(0, .ref o), (1, .int x1), (2, .int x2), (3, .int x3), (4, .int x4)] → W p l e R s m args below meth c H locs 0 0 QQ (F0 m 85 ls [.int s0]) := by
        intro x3 x4 s0 hw H locs ls hR hS hl
        unfold wM_goesOn_j85 at hw
        refine lv_istore (lv' := [(7, .int s0), (0, .ref o), (1, .int x1), (2, .int x2), (3, .int x3), (4, .int x4)]) hx hb dX2_goesOn_85 hl (by decide) rfl (fun ls hl => ?_)
        refine lv_iload hx hb dX2_goesOn_87 (lv_at hl 0 rfl) ?_
        have hK89 : ∀ (y89_0 : Int32), y89_0 = (if s0 = 0 then x3 else x4) → ∀ (ls : Array Slot), lv_has ls 8 [(0, .ref o), (1, .int x1), (2, .int x2), (4, .int x4)] → W p l e R s m args below meth c H locs 0 0 QQ (F0 m 98 ls [.int y89_0]) := by
          intro y89_0 e_y89_0 ls hl
          have hw := hw y89_0 e_y89_0
          refine lv_istore_n (lv' := [(3, .int y89_0), (0, .ref o), (1, .int x1), (2, .int x2), (4, .int x4)]) hx hb dX2_goesOn_98 rfl hl (by decide) rfl (fun ls hl => ?_)
          refine lv_iinc (k := 4) (lv' := [(4, .int (x4 + 1)), (3, .int y89_0), (0, .ref o), (1, .int x1), (2, .int x2)]) hx hb dX2_goesOn_99 hl rfl (congrArg (x4 + ·) (by decide : Int32.ofInt 1 = 1)) (by decide) rfl (fun ls hl => ?_)
          refine lv_goto (tgt := 7) hx hb dX2_goesOn_102 (by decide) ?_
          exact ih7 y89_0 (x4 + 1) hw H locs ls hR hS (lv_sub hl [2, 3, 4, 1, 0] rfl)
        refine lv_if_eq (tgt := 97) hx hb dX2_goesOn_89 (by decide) (fun c_89 => ?_) (fun c_89 => ?_)
        · refine lv_iload_n hx hb dX2_goesOn_97 rfl (lv_at hl 4 rfl) ?_
          exact hK89 _ (if_pos c_89).symm ls (lv_sub hl [1, 2, 3, 5] rfl)
        · refine lv_iload hx hb dX2_goesOn_92 (lv_at hl 5 rfl) ?_
          refine lv_goto (tgt := 98) hx hb dX2_goesOn_94 (by decide) ?_
          exact hK89 _ (if_neg c_89).symm ls (lv_sub hl [1, 2, 3, 5] rfl)
      have hJ80 : ∀ (x3 : Int32) (x4 : Int32), wM_goesOn_j80 (wM_goesOn_l7  Q σ x1 x2 n7) Q σ x1 x2 x3 x4 → ∀ (H : Heap) (locs : List Loc) (ls : Array Slot), mR G o ρ σ H → va_S (mA o ρ) s.heap H locs → lv_has ls 8 [(0, .ref o), (1, .int x1), (2, .int x2), (3, .int x3), (4, .int x4)] → W p l e R s m args below meth c H locs 0 0 QQ (F0 m 80 ls []) := by
        intro x3 x4 hw H locs ls hR hS hl
        unfold wM_goesOn_j80 at hw
        refine lv_iconst (v := 1) hx hb dX2_goesOn_80 (by decide) ?_
        refine lv_goto (tgt := 85) hx hb dX2_goesOn_81 (by decide) ?_
        exact hJ85 x3 x4 (1 : Int32) hw H locs ls hR hS (lv_sub hl [0, 1, 2, 3, 4] rfl)
      intro x3 x4 hw H locs ls hR hS hl
      rw [wM_goesOn_l7] at hw
      refine lv_iload hx hb dX2_goesOn_7 (lv_at hl 4 rfl) ?_
      refine lv_aload_n hx hb dX2_goesOn_9 rfl (lv_at hl 0 rfl) ?_
      refine mg_65 hx hb hts hown hE hR dX2_goesOn_10 ?_
      refine lv_iload_n hx hb dX2_goesOn_13 rfl (lv_at hl 1 rfl) ?_
      obtain ⟨hi_14, hw⟩ := hw
      refine ma_65 hx hb hE hR hi_14 dX2_goesOn_14 ?_
      refine lv_icmp_ge (tgt := 105) hx hb dX2_goesOn_15 (by decide) (fun c_15 => ?_) (fun c_15 => ?_)
      · have hw := hw.1 c_15
        refine lv_iload_n hx hb dX2_goesOn_105 rfl (lv_at hl 3 rfl) ?_
        exact hret _ _ _ _ _ _ ⟨rfl, hw⟩ hR hS dX2_goesOn_106
      · have hw := hw.2 c_15
        refine lv_aload_n hx hb dX2_goesOn_18 rfl (lv_at hl 0 rfl) ?_
        refine lv_iload_n hx hb dX2_goesOn_19 rfl (lv_at hl 1 rfl) ?_
        refine lv_iload hx hb dX2_goesOn_20 (lv_at hl 4 rfl) ?_
        refine mc_vlr (As := [.int x1, .int x4]) (rest := []) X (mM_item0 l G o ρ hap σ x1 x4 _ hw) (lw_V q2542 q2544 qs98 q_ini2 q2545) hd2_item0 (mm_le hRf rfl) (mm_le hRl rfl) rfl rfl (Nat.le_of_ble_eq_true rfl) dX2_goesOn_22 hR hS hl.1 (fun r22 H locs hw hR hS => ?_)
        refine lv_lconst (v := 0) hx hb dX2_goesOn_25 (by decide) ?_
        refine mm_lclt (p1 := 27) (tgt := 99) hx hb dX2_goesOn_26 rfl dX2_goesOn_27 (by decide) (fun c_26 => ?_) (fun c_26 => ?_)
        · have hw := hw.1 c_26
          refine lv_iinc (k := 4) (lv' := [(4, .int (x4 + 1)), (0, .ref o), (1, .int x1), (2, .int x2), (3, .int x3)]) hx hb dX2_goesOn_99 hl rfl (congrArg (x4 + ·) (by decide : Int32.ofInt 1 = 1)) (by decide) rfl (fun ls hl => ?_)
          refine lv_goto (tgt := 7) hx hb dX2_goesOn_102 (by decide) ?_
          exact ih7 x3 (x4 + 1) hw H locs ls hR hS (lv_sub hl [1, 2, 3, 4, 0] rfl)
        · have hw := hw.2 c_26
          refine lv_aload_n hx hb dX2_goesOn_30 rfl (lv_at hl 0 rfl) ?_
          refine lv_iload_n hx hb dX2_goesOn_31 rfl (lv_at hl 1 rfl) ?_
          refine lv_iload hx hb dX2_goesOn_32 (lv_at hl 4 rfl) ?_
          refine mc_vlr (As := [.int x1, .int x4]) (rest := []) X (mM_item0 l G o ρ hap σ x1 x4 _ hw) (lw_V q2542 q2544 qs98 q_ini2 q2545) hd2_item0 (mm_le hRf rfl) (mm_le hRl rfl) rfl rfl (Nat.le_of_ble_eq_true rfl) dX2_goesOn_34 hR hS hl.1 (fun r34 H locs hw hR hS => ?_)
          refine lv_aload_n hx hb dX2_goesOn_37 rfl (lv_at hl 0 rfl) ?_
          refine lv_iload_n hx hb dX2_goesOn_38 rfl (lv_at hl 1 rfl) ?_
          refine lv_iload_n hx hb dX2_goesOn_39 rfl (lv_at hl 2 rfl) ?_
          refine mc_vlr (As := [.int x1, .int x2]) (rest := [.long r34]) X (mM_item0 l G o ρ hap σ x1 x2 _ hw) (lw_V q2542 q2544 qs98 q_ini2 q2545) hd2_item0 (mm_le hRf rfl) (mm_le hRl rfl) rfl rfl (Nat.le_of_ble_eq_true rfl) dX2_goesOn_40 hR hS hl.1 (fun r40 H locs hw hR hS => ?_)
          refine lv_lsub hx hb dX2_goesOn_43 ?_
          refine lv_lstore (lv' := [(5, .long (r34 - r40)), (0, .ref o), (1, .int x1), (2, .int x2), (3, .int x3), (4, .int x4)]) hx hb dX2_goesOn_44 hl (by decide) rfl (fun ls hl => ?_)
          refine lv_iload_n hx hb dX2_goesOn_46 rfl (lv_at hl 4 rfl) ?_
          refine lv_if_lt (tgt := 80) hx hb dX2_goesOn_47 (by decide) (fun c_47 => ?_) (fun c_47 => ?_)
          · have hw := hw.1 c_47
            exact hJ80 x3 x4 hw H locs ls hR hS (lv_sub hl [1, 2, 3, 4, 5] rfl)
          · have hw := hw.2 c_47
            refine lv_lload hx hb dX2_goesOn_50 (lv_at hl 0 rfl) ?_
            refine lv_iload_n hx hb dX2_goesOn_52 rfl (lv_at hl 4 rfl) ?_
            refine lv_iload_n hx hb dX2_goesOn_53 rfl (lv_at hl 3 rfl) ?_
            refine lv_isub hx hb dX2_goesOn_54 ?_
            refine lv_i2l hx hb dX2_goesOn_55 rfl ?_
            refine lv_lmul hx hb dX2_goesOn_56 ?_
            refine lv_aload_n hx hb dX2_goesOn_57 rfl (lv_at hl 1 rfl) ?_
            refine lv_iload_n hx hb dX2_goesOn_58 rfl (lv_at hl 2 rfl) ?_
            refine lv_iload_n hx hb dX2_goesOn_59 rfl (lv_at hl 4 rfl) ?_
            refine mc_vlr (As := [.int x1, .int x3]) (rest := [.long ((r34 - r40) * (x3 - x2).toInt64)]) X (mM_item0 l G o ρ hap σ x1 x3 _ hw) (lw_V q2542 q2544 qs98 q_ini2 q2545) hd2_item0 (mm_le hRf rfl) (mm_le hRl rfl) rfl rfl (Nat.le_of_ble_eq_true rfl) dX2_goesOn_60 hR hS hl.1 (fun r60 H locs hw hR hS => ?_)
            refine lv_aload_n hx hb dX2_goesOn_63 rfl (lv_at hl 1 rfl) ?_
            refine lv_iload_n hx hb dX2_goesOn_64 rfl (lv_at hl 2 rfl) ?_
            refine lv_iload_n hx hb dX2_goesOn_65 rfl (lv_at hl 3 rfl) ?_
            refine mc_vlr (As := [.int x1, .int x2]) (rest := [.long r60, .long ((r34 - r40) * (x3 - x2).toInt64)]) X (mM_item0 l G o ρ hap σ x1 x2 _ hw) (lw_V q2542 q2544 qs98 q_ini2 q2545) hd2_item0 (mm_le hRf rfl) (mm_le hRl rfl) rfl rfl (Nat.le_of_ble_eq_true rfl) dX2_goesOn_66 hR hS hl.1 (fun r66 H locs hw hR hS => ?_)
            refine lv_lsub hx hb dX2_goesOn_69 ?_
            refine lv_iload hx hb dX2_goesOn_70 (lv_at hl 5 rfl) ?_
            refine lv_iload_n hx hb dX2_goesOn_72 rfl (lv_at hl 3 rfl) ?_
            refine lv_isub hx hb dX2_goesOn_73 ?_
            refine lv_i2l hx hb dX2_goesOn_74 rfl ?_
            refine lv_lmul hx hb dX2_goesOn_75 ?_
            refine mm_lcgt (p1 := 77) (tgt := 84) hx hb dX2_goesOn_76 rfl dX2_goesOn_77 (by decide) (fun c_76 => ?_) (fun c_76 => ?_)
            · have hw := hw.1 c_76
              refine lv_iconst (v := 0) hx hb dX2_goesOn_84 (by decide) ?_
              exact hJ85 x3 x4 (0 : Int32) hw H locs ls hR hS (lv_sub hl [1, 2, 3, 4, 5] rfl)
            · have hw := hw.2 c_76
              exact hJ80 x3 x4 hw H locs ls hR hS (lv_sub hl [1, 2, 3, 4, 5] rfl)
  intro H ls hR hS hl
  have hl : lv_has ls 8 [(0, .ref o), (1, .int x1), (2, .int x2)] := hl
  generalize ([] : List Loc) = locs at hS ⊢
  unfold wM_goesOn at hw
  refine lv_iconst (v := (-1)) hx hb dX2_goesOn_0 (by decide) ?_
  refine lv_istore_n (lv' := [(3, .int (-1)), (0, .ref o), (1, .int x1), (2, .int x2)]) hx hb dX2_goesOn_1 rfl hl (by decide) rfl (fun ls hl => ?_)
  refine lv_iload_n hx hb dX2_goesOn_2 rfl (lv_at hl 3 rfl) ?_
  refine lv_iconst (v := 1) hx hb dX2_goesOn_3 (by decide) ?_
  refine lv_iadd hx hb dX2_goesOn_4 ?_
  refine lv_istore (lv' := [(4, .int (x2 + 1)), (3, .int (-1)), (0, .ref o), (1, .int x1), (2, .int x2)]) hx hb dX2_goesOn_5 hl (by decide) rfl (fun ls hl => ?_)
  obtain ⟨n7, hw⟩ := hw
  exact hL7 x1 x2 n7 ((-1) : Int32) (x2 + 1) hw H locs ls hR hS (lv_sub hl [2, 3, 4, 1, 0] rfl)
def wM_corner_j89  (Q : Int32 → Prop) (σ : mS) (x2 : Int32) (x3 : Int32)  : Prop :=
  ∀ y90_0 : Int32, y90_0 = (if x2 < 0 then (-2) else (if 0 ≤ x3 then x3 else (-2))) → Q y90_0
def wM_corner_l66  (Q : Int32 → Prop) (σ : mS) (x1 : Int32) (x2 : Int32) : Nat → Int32 → Int32 → Prop
  | 0, _, _ => False
  | n + 1, x3, x4 => ((x2 ≤ x4 → (wM_corner_j89  Q σ x2 x3)) ∧ (¬ x2 ≤ x4 → ((x3 < 0 → (wM_corner_j89  Q σ x2 x3)) ∧ (¬ x3 < 0 → wM_goesOn σ x1 x3 (fun r79 => wM_corner_l66  Q σ x1 x2 n r79 (x4 + 1))))))
def wM_corner_l33  (Q : Int32 → Prop) (σ : mS) (x1 : Int32) (x2 : Int32) : Nat → Int32 → Int32 → Prop
  | 0, _, _ => False
  | n + 1, x3, x4 => ((x4 < 0 → (∃ k66 : Nat, wM_corner_l66  Q σ x1 x2 k66 x3 (0 : Int32))) ∧ (¬ x4 < 0 → wM_item0 σ x1 x4 (fun r42 => ∀ y46_0 : Int32, y46_0 = (if r42 < (0 : Int64) then x3 else x4) → wM_corner_l33  Q σ x1 x2 n y46_0 (x4 + (-1)))))
def wM_corner (σ : mS) (x1 : Int32) (x2 : Int32) (Q : Int32 → Prop) : Prop :=
  wM_isSheet x1 (fun r1 => ((r1 = 0 → Q ((-1) : Int32)) ∧ (¬ r1 = 0 → vp_in x1 4 ∧ (((0 ≤ (mga σ 64 x1.toNatClampNeg) → vp_in x1 4 ∧ ((∃ k33 : Nat, wM_corner_l33  Q σ x1 x2 k33 ((-1) : Int32) ((mga σ 65 x1.toNatClampNeg) - 1)))) ∧ (¬ 0 ≤ (mga σ 64 x1.toNatClampNeg) → Q ((-11) : Int32)))))))
set_option maxHeartbeats 4000000 in
theorem mM_corner (l : Launch) (G : mG) (o : Nat) (ρ : Nat → Nat) (hap : mAp o ρ) (σ : mS) (x1 : Int32) (x2 : Int32) (Q : Int32 → Prop) (hw : wM_corner σ x1 x2 Q) : mMetI l G yX2_corner (ws_ yX2_corner cX2_corner 5 (some .int)) 2 49 o ρ [.ref o, .int x1, .int x2] σ (fun r τ => σ = τ ∧ Q r) := by
  refine mo_I plain2 rfl (Nat.le_of_ble_eq_true rfl) ?_
  intro p e s R m args below meth c QQ X hRf hRl hret
  obtain ⟨hx, hb, hml, hown, hts, hE⟩ := id X
  have hJ89 : ∀ (x2 : Int32) (x3 : Int32), wM_corner_j89  Q σ x2 x3 → ∀ (H : Heap) (locs : List Loc) (ls : Array Slot), mR G o ρ σ H → va_S (mA o ρ) s.heap H locs → lv_has ls 5 [(2, .int x2), (3, .int x3)] → W p l e R s m args below meth c H locs 0 0 QQ (F0 m 89 ls []) := by
    intro x2 x3 hw H locs ls hR hS hl
    unfold wM_corner_j89 at hw
    refine lv_iload_n hx hb dX2_corner_89 rfl (lv_at hl 0 rfl) ?_
    have hK90 : ∀ (y90_0 : Int32), y90_0 = (if x2 < 0 then (-2) else (if 0 ≤ x3 then x3 else (-2))) → ∀ (ls : Array Slot), lv_has ls 5 [] → W p l e R s m args below meth c H locs 0 0 QQ (F0 m 103 ls [.int y90_0]) := by
      intro y90_0 e_y90_0 ls hl
      have hw := hw y90_0 e_y90_0
      exact hret _ _ _ _ _ _ ⟨rfl, hw⟩ hR hS dX2_corner_103
    refine lv_if_lt (tgt := 97) hx hb dX2_corner_90 (by decide) (fun c_90 => ?_) (fun c_90 => ?_)
    · refine lv_bipush (v := (-2)) hx hb dX2_corner_97 (by decide) ?_
      refine lv_goto (tgt := 103) hx hb dX2_corner_99 (by decide) ?_
      exact hK90 _ (if_pos c_90).symm ls (lv_sub hl [] rfl)
    · refine lv_iload_n hx hb dX2_corner_93 rfl (lv_at hl 1 rfl) ?_
      refine lv_if_ge (tgt := 102) hx hb dX2_corner_94 (by decide) (fun c_94 => ?_) (fun c_94 => ?_)
      · refine lv_iload_n hx hb dX2_corner_102 rfl (lv_at hl 1 rfl) ?_
        exact hK90 _ ((if_pos c_94).symm.trans (if_neg c_90).symm) ls (lv_sub hl [] rfl)
      · refine lv_bipush (v := (-2)) hx hb dX2_corner_97 (by decide) ?_
        refine lv_goto (tgt := 103) hx hb dX2_corner_99 (by decide) ?_
        exact hK90 _ ((if_neg c_94).symm.trans (if_neg c_90).symm) ls (lv_sub hl [] rfl)
  have hL66 : ∀ (x1 : Int32) (x2 : Int32) (n66 : Nat) (x3 : Int32) (x4 : Int32), wM_corner_l66  Q σ x1 x2 n66 x3 x4 → ∀ (H : Heap) (locs : List Loc) (ls : Array Slot), mR G o ρ σ H → va_S (mA o ρ) s.heap H locs → lv_has ls 5 [(0, .ref o), (1, .int x1), (2, .int x2), (3, .int x3), (4, .int x4)] → W p l e R s m args below meth c H locs 0 0 QQ (F0 m 66 ls []) := by
    intro x1 x2 n66
    induction n66 with
    | zero => intro x3 x4 hw; exact hw.elim
    | succ n66 ih66 =>
      intro x3 x4 hw H locs ls hR hS hl
      rw [wM_corner_l66] at hw
      refine lv_iload hx hb dX2_corner_66 (lv_at hl 4 rfl) ?_
      refine lv_iload_n hx hb dX2_corner_68 rfl (lv_at hl 2 rfl) ?_
      refine lv_icmp_ge (tgt := 89) hx hb dX2_corner_69 (by decide) (fun c_69 => ?_) (fun c_69 => ?_)
      · have hw := hw.1 c_69
        exact hJ89 x2 x3 hw H locs ls hR hS (lv_sub hl [2, 3] rfl)
      · have hw := hw.2 c_69
        refine lv_iload_n hx hb dX2_corner_72 rfl (lv_at hl 3 rfl) ?_
        refine lv_if_lt (tgt := 89) hx hb dX2_corner_73 (by decide) (fun c_73 => ?_) (fun c_73 => ?_)
        · have hw := hw.1 c_73
          exact hJ89 x2 x3 hw H locs ls hR hS (lv_sub hl [2, 3] rfl)
        · have hw := hw.2 c_73
          refine lv_aload_n hx hb dX2_corner_76 rfl (lv_at hl 0 rfl) ?_
          refine lv_iload_n hx hb dX2_corner_77 rfl (lv_at hl 1 rfl) ?_
          refine lv_iload_n hx hb dX2_corner_78 rfl (lv_at hl 3 rfl) ?_
          refine mc_vir (As := [.int x1, .int x3]) (rest := []) X (mM_goesOn l G o ρ hap σ x1 x3 _ hw) (lw_V q2546 q2548 qs99 q_ini2 q2549) hd2_goesOn (mm_le hRf rfl) (mm_le hRl rfl) rfl rfl (Nat.le_of_ble_eq_true rfl) dX2_corner_79 hR hS hl.1 (fun r79 H locs hw hR hS => ?_)
          refine lv_istore_n (lv' := [(3, .int r79), (0, .ref o), (1, .int x1), (2, .int x2), (4, .int x4)]) hx hb dX2_corner_82 rfl hl (by decide) rfl (fun ls hl => ?_)
          refine lv_iinc (k := 4) (lv' := [(4, .int (x4 + 1)), (3, .int r79), (0, .ref o), (1, .int x1), (2, .int x2)]) hx hb dX2_corner_83 hl rfl (congrArg (x4 + ·) (by decide : Int32.ofInt 1 = 1)) (by decide) rfl (fun ls hl => ?_)
          refine lv_goto (tgt := 66) hx hb dX2_corner_86 (by decide) ?_
          exact ih66 r79 (x4 + 1) hw H locs ls hR hS (lv_sub hl [2, 3, 4, 1, 0] rfl)
  have hL33 : ∀ (x1 : Int32) (x2 : Int32) (n33 : Nat) (x3 : Int32) (x4 : Int32), wM_corner_l33  Q σ x1 x2 n33 x3 x4 → ∀ (H : Heap) (locs : List Loc) (ls : Array Slot), mR G o ρ σ H → va_S (mA o ρ) s.heap H locs → lv_has ls 5 [(0, .ref o), (1, .int x1), (2, .int x2), (3, .int x3), (4, .int x4)] → W p l e R s m args below meth c H locs 0 0 QQ (F0 m 33 ls []) := by
    intro x1 x2 n33
    induction n33 with
    | zero => intro x3 x4 hw; exact hw.elim
    | succ n33 ih33 =>
      intro x3 x4 hw H locs ls hR hS hl
      rw [wM_corner_l33] at hw
      refine lv_iload hx hb dX2_corner_33 (lv_at hl 4 rfl) ?_
      refine lv_if_lt (tgt := 63) hx hb dX2_corner_35 (by decide) (fun c_35 => ?_) (fun c_35 => ?_)
      · have hw := hw.1 c_35
        refine lv_iconst (v := 0) hx hb dX2_corner_63 (by decide) ?_
        refine lv_istore (lv' := [(4, .int 0), (0, .ref o), (1, .int x1), (2, .int x2), (3, .int x3)]) hx hb dX2_corner_64 hl (by decide) rfl (fun ls hl => ?_)
        obtain ⟨n66, hw⟩ := hw
        exact hL66 x1 x2 n66 x3 (0 : Int32) hw H locs ls hR hS (lv_sub hl [1, 2, 3, 4, 0] rfl)
      · have hw := hw.2 c_35
        refine lv_aload_n hx hb dX2_corner_38 rfl (lv_at hl 0 rfl) ?_
        refine lv_iload_n hx hb dX2_corner_39 rfl (lv_at hl 1 rfl) ?_
        refine lv_iload hx hb dX2_corner_40 (lv_at hl 4 rfl) ?_
        refine mc_vlr (As := [.int x1, .int x4]) (rest := []) X (mM_item0 l G o ρ hap σ x1 x4 _ hw) (lw_V q2542 q2544 qs98 q_ini2 q2545) hd2_item0 (mm_le hRf rfl) (mm_le hRl rfl) rfl rfl (Nat.le_of_ble_eq_true rfl) dX2_corner_42 hR hS hl.1 (fun r42 H locs hw hR hS => ?_)
        refine lv_lconst (v := 0) hx hb dX2_corner_45 (by decide) ?_
        have hK46 : ∀ (y46_0 : Int32), y46_0 = (if r42 < (0 : Int64) then x3 else x4) → ∀ (ls : Array Slot), lv_has ls 5 [(0, .ref o), (1, .int x1), (2, .int x2), (4, .int x4)] → W p l e R s m args below meth c H locs 0 0 QQ (F0 m 56 ls [.int y46_0]) := by
          intro y46_0 e_y46_0 ls hl
          have hw := hw y46_0 e_y46_0
          refine lv_istore_n (lv' := [(3, .int y46_0), (0, .ref o), (1, .int x1), (2, .int x2), (4, .int x4)]) hx hb dX2_corner_56 rfl hl (by decide) rfl (fun ls hl => ?_)
          refine lv_iinc (k := 4) (lv' := [(4, .int (x4 + (-1))), (3, .int y46_0), (0, .ref o), (1, .int x1), (2, .int x2)]) hx hb dX2_corner_57 hl rfl (congrArg (x4 + ·) (by decide : Int32.ofInt (-1) = (-1))) (by decide) rfl (fun ls hl => ?_)
          refine lv_goto (tgt := 33) hx hb dX2_corner_60 (by decide) ?_
          exact ih33 y46_0 (x4 + (-1)) hw H locs ls hR hS (lv_sub hl [2, 3, 4, 1, 0] rfl)
        refine mm_lclt (p1 := 47) (tgt := 55) hx hb dX2_corner_46 rfl dX2_corner_47 (by decide) (fun c_46 => ?_) (fun c_46 => ?_)
        · refine lv_iload_n hx hb dX2_corner_55 rfl (lv_at hl 3 rfl) ?_
          exact hK46 _ (if_pos c_46).symm ls (lv_sub hl [0, 1, 2, 4] rfl)
        · refine lv_iload hx hb dX2_corner_50 (lv_at hl 4 rfl) ?_
          refine lv_goto (tgt := 56) hx hb dX2_corner_52 (by decide) ?_
          exact hK46 _ (if_neg c_46).symm ls (lv_sub hl [0, 1, 2, 4] rfl)
  intro H ls hR hS hl
  have hl : lv_has ls 5 [(0, .ref o), (1, .int x1), (2, .int x2)] := hl
  generalize ([] : List Loc) = locs at hS ⊢
  unfold wM_corner at hw
  refine lv_iload_n hx hb dX2_corner_0 rfl (lv_at hl 1 rfl) ?_
  refine mc_si (As := [.int x1]) (rest := []) X (mM_isSheet l x1 _ hw) (lw_S q2539 q2540 q_ini2 q2541) hd2_isSheet (mm_le hRf rfl) (mm_le hRl rfl) rfl rfl (Nat.le_of_ble_eq_true rfl) dX2_corner_1 hR hS hl.1 (fun r1 H locs hw hR hS => ?_)
  refine lv_if_ne (tgt := 9) hx hb dX2_corner_4 (by decide) (fun c_4 => ?_) (fun c_4 => ?_)
  · have hw := hw.2 c_4
    refine lv_aload_n hx hb dX2_corner_9 rfl (lv_at hl 0 rfl) ?_
    refine mg_64 hx hb hts hown hE hR dX2_corner_10 ?_
    refine lv_iload_n hx hb dX2_corner_13 rfl (lv_at hl 1 rfl) ?_
    obtain ⟨hi_14, hw⟩ := hw
    refine ma_64 hx hb hE hR hi_14 dX2_corner_14 ?_
    refine lv_if_ge (tgt := 21) hx hb dX2_corner_15 (by decide) (fun c_15 => ?_) (fun c_15 => ?_)
    · have hw := hw.1 c_15
      refine lv_iconst (v := (-1)) hx hb dX2_corner_21 (by decide) ?_
      refine lv_istore_n (lv' := [(3, .int (-1)), (0, .ref o), (1, .int x1), (2, .int x2)]) hx hb dX2_corner_22 rfl hl (by decide) rfl (fun ls hl => ?_)
      refine lv_aload_n hx hb dX2_corner_23 rfl (lv_at hl 1 rfl) ?_
      refine mg_65 hx hb hts hown hE hR dX2_corner_24 ?_
      refine lv_iload_n hx hb dX2_corner_27 rfl (lv_at hl 2 rfl) ?_
      obtain ⟨hi_28, hw⟩ := hw
      refine ma_65 hx hb hE hR hi_28 dX2_corner_28 ?_
      refine lv_iconst (v := 1) hx hb dX2_corner_29 (by decide) ?_
      refine lv_isub hx hb dX2_corner_30 ?_
      refine lv_istore (lv' := [(4, .int ((mga σ 65 x1.toNatClampNeg) - 1)), (3, .int (-1)), (0, .ref o), (1, .int x1), (2, .int x2)]) hx hb dX2_corner_31 hl (by decide) rfl (fun ls hl => ?_)
      obtain ⟨n33, hw⟩ := hw
      exact hL33 x1 x2 n33 ((-1) : Int32) ((mga σ 65 x1.toNatClampNeg) - 1) hw H locs ls hR hS (lv_sub hl [2, 3, 4, 1, 0] rfl)
    · have hw := hw.2 c_15
      refine lv_bipush (v := (-11)) hx hb dX2_corner_18 (by decide) ?_
      exact hret _ _ _ _ _ _ ⟨rfl, hw⟩ hR hS dX2_corner_20
  · have hw := hw.1 c_4
    refine lv_iconst (v := (-1)) hx hb dX2_corner_7 (by decide) ?_
    exact hret _ _ _ _ _ _ ⟨rfl, hw⟩ hR hS dX2_corner_8
def wM_unasked_j62  (Q : Int32 → Prop) (σ : mS) (x2 : Int32) (x3 : Int32) (s0 : Int32) : Prop :=
  ∀ y66_0 : Int32, y66_0 = (if s0 = 0 then (-12) else (if x2 = x3 then (-15) else 0)) → Q y66_0
def wM_unasked_j61  (Q : Int32 → Prop) (σ : mS) (x2 : Int32) (x3 : Int32)  : Prop :=
  (wM_unasked_j62  Q σ x2 x3 (0 : Int32))
def wM_unasked (σ : mS) (x1 : Int32) (x2 : Int32) (x3 : Int32) (Q : Int32 → Prop) : Prop :=
  wM_isSheet x1 (fun r1 => ((r1 = 0 → Q ((-1) : Int32)) ∧ (¬ r1 = 0 → vp_in x1 4 ∧ (((0 ≤ (mga σ 64 x1.toNatClampNeg) → vp_in x1 4 ∧ (wM_in (x2).toInt64 (0 : Int64) ((mga σ 65 x1.toNatClampNeg) - 1).toInt64 (fun r33 => ((r33 = 0 → (wM_unasked_j61  Q σ x2 x3)) ∧ (¬ r33 = 0 → vp_in x1 4 ∧ (wM_in (x3).toInt64 (0 : Int64) ((mga σ 65 x1.toNatClampNeg) - 1).toInt64 (fun r51 => ((r51 = 0 → (wM_unasked_j61  Q σ x2 x3)) ∧ (¬ r51 = 0 → (wM_unasked_j62  Q σ x2 x3 (1 : Int32))))))))))) ∧ (¬ 0 ≤ (mga σ 64 x1.toNatClampNeg) → Q ((-11) : Int32)))))))
set_option maxHeartbeats 4000000 in
theorem mM_unasked (l : Launch) (G : mG) (o : Nat) (ρ : Nat → Nat) (hap : mAp o ρ) (σ : mS) (x1 : Int32) (x2 : Int32) (x3 : Int32) (Q : Int32 → Prop) (hw : wM_unasked σ x1 x2 x3 Q) : mMetI l G yX2_unasked (ws_ yX2_unasked cX2_unasked 5 (some .int)) 1 25 o ρ [.ref o, .int x1, .int x2, .int x3] σ (fun r τ => σ = τ ∧ Q r) := by
  refine mo_I plain2 rfl (Nat.le_of_ble_eq_true rfl) ?_
  intro p e s R m args below meth c QQ X hRf hRl hret
  obtain ⟨hx, hb, hml, hown, hts, hE⟩ := id X
  have hJ62 : ∀ (x2 : Int32) (x3 : Int32) (s0 : Int32), wM_unasked_j62  Q σ x2 x3 s0 → ∀ (H : Heap) (locs : List Loc) (ls : Array Slot), mR G o ρ σ H → va_S (mA o ρ) s.heap H locs → lv_has ls 5 [(2, .int x2), (3, .int x3)] → W p l e R s m args below meth c H locs 0 0 QQ (F0 m 62 ls [.int s0]) := by
    intro x2 x3 s0 hw H locs ls hR hS hl
    unfold wM_unasked_j62 at hw
    refine lv_istore (lv' := [(4, .int s0), (2, .int x2), (3, .int x3)]) hx hb dX2_unasked_62 hl (by decide) rfl (fun ls hl => ?_)
    refine lv_iload hx hb dX2_unasked_64 (lv_at hl 0 rfl) ?_
    have hK66 : ∀ (y66_0 : Int32), y66_0 = (if s0 = 0 then (-12) else (if x2 = x3 then (-15) else 0)) → ∀ (ls : Array Slot), lv_has ls 5 [] → W p l e R s m args below meth c H locs 0 0 QQ (F0 m 85 ls [.int y66_0]) := by
      intro y66_0 e_y66_0 ls hl
      have hw := hw y66_0 e_y66_0
      exact hret _ _ _ _ _ _ ⟨rfl, hw⟩ hR hS dX2_unasked_85
    refine lv_if_ne (tgt := 74) hx hb dX2_unasked_66 (by decide) (fun c_66 => ?_) (fun c_66 => ?_)
    · refine lv_iload_n hx hb dX2_unasked_74 rfl (lv_at hl 1 rfl) ?_
      refine lv_iload_n hx hb dX2_unasked_75 rfl (lv_at hl 2 rfl) ?_
      refine lv_icmp_ne (tgt := 84) hx hb dX2_unasked_76 (by decide) (fun c_76 => ?_) (fun c_76 => ?_)
      · refine lv_iconst (v := 0) hx hb dX2_unasked_84 (by decide) ?_
        exact hK66 _ ((if_neg c_76).symm.trans (if_neg c_66).symm) ls (lv_sub hl [] rfl)
      · refine lv_bipush (v := (-15)) hx hb dX2_unasked_79 (by decide) ?_
        refine lv_goto (tgt := 85) hx hb dX2_unasked_81 (by decide) ?_
        exact hK66 _ ((if_pos c_76).symm.trans (if_neg c_66).symm) ls (lv_sub hl [] rfl)
    · refine lv_bipush (v := (-12)) hx hb dX2_unasked_69 (by decide) ?_
      refine lv_goto (tgt := 85) hx hb dX2_unasked_71 (by decide) ?_
      exact hK66 _ (if_pos c_66).symm ls (lv_sub hl [] rfl)
  have hJ61 : ∀ (x2 : Int32) (x3 : Int32), wM_unasked_j61  Q σ x2 x3 → ∀ (H : Heap) (locs : List Loc) (ls : Array Slot), mR G o ρ σ H → va_S (mA o ρ) s.heap H locs → lv_has ls 5 [(2, .int x2), (3, .int x3)] → W p l e R s m args below meth c H locs 0 0 QQ (F0 m 61 ls []) := by
    intro x2 x3 hw H locs ls hR hS hl
    unfold wM_unasked_j61 at hw
    refine lv_iconst (v := 0) hx hb dX2_unasked_61 (by decide) ?_
    exact hJ62 x2 x3 (0 : Int32) hw H locs ls hR hS (lv_sub hl [0, 1] rfl)
  intro H ls hR hS hl
  have hl : lv_has ls 5 [(0, .ref o), (1, .int x1), (2, .int x2), (3, .int x3)] := hl
  generalize ([] : List Loc) = locs at hS ⊢
  unfold wM_unasked at hw
  refine lv_iload_n hx hb dX2_unasked_0 rfl (lv_at hl 1 rfl) ?_
  refine mc_si (As := [.int x1]) (rest := []) X (mM_isSheet l x1 _ hw) (lw_S q2539 q2540 q_ini2 q2541) hd2_isSheet (mm_le hRf rfl) (mm_le hRl rfl) rfl rfl (Nat.le_of_ble_eq_true rfl) dX2_unasked_1 hR hS hl.1 (fun r1 H locs hw hR hS => ?_)
  refine lv_if_ne (tgt := 9) hx hb dX2_unasked_4 (by decide) (fun c_4 => ?_) (fun c_4 => ?_)
  · have hw := hw.2 c_4
    refine lv_aload_n hx hb dX2_unasked_9 rfl (lv_at hl 0 rfl) ?_
    refine mg_64 hx hb hts hown hE hR dX2_unasked_10 ?_
    refine lv_iload_n hx hb dX2_unasked_13 rfl (lv_at hl 1 rfl) ?_
    obtain ⟨hi_14, hw⟩ := hw
    refine ma_64 hx hb hE hR hi_14 dX2_unasked_14 ?_
    refine lv_if_ge (tgt := 21) hx hb dX2_unasked_15 (by decide) (fun c_15 => ?_) (fun c_15 => ?_)
    · have hw := hw.1 c_15
      refine lv_iload_n hx hb dX2_unasked_21 rfl (lv_at hl 2 rfl) ?_
      refine lv_i2l hx hb dX2_unasked_22 rfl ?_
      refine lv_lconst (v := 0) hx hb dX2_unasked_23 (by decide) ?_
      refine lv_aload_n hx hb dX2_unasked_24 rfl (lv_at hl 0 rfl) ?_
      refine mg_65 hx hb hts hown hE hR dX2_unasked_25 ?_
      refine lv_iload_n hx hb dX2_unasked_28 rfl (lv_at hl 1 rfl) ?_
      obtain ⟨hi_29, hw⟩ := hw
      refine ma_65 hx hb hE hR hi_29 dX2_unasked_29 ?_
      refine lv_iconst (v := 1) hx hb dX2_unasked_30 (by decide) ?_
      refine lv_isub hx hb dX2_unasked_31 ?_
      refine lv_i2l hx hb dX2_unasked_32 rfl ?_
      refine mc_si (As := [.long (x2).toInt64, .long (0 : Int64), .long ((mga σ 65 x1.toNatClampNeg) - 1).toInt64]) (rest := []) X (mM_in l (x2).toInt64 (0 : Int64) ((mga σ 65 x1.toNatClampNeg) - 1).toInt64 _ hw) (lw_S q2198 q2199 q_ini2 q2200) hd2_in (mm_le hRf rfl) (mm_le hRl rfl) rfl rfl (Nat.le_of_ble_eq_true rfl) dX2_unasked_33 hR hS hl.1 (fun r33 H locs hw hR hS => ?_)
      refine lv_if_eq (tgt := 61) hx hb dX2_unasked_36 (by decide) (fun c_36 => ?_) (fun c_36 => ?_)
      · have hw := hw.1 c_36
        exact hJ61 x2 x3 hw H locs ls hR hS (lv_sub hl [2, 3] rfl)
      · have hw := hw.2 c_36
        refine lv_iload_n hx hb dX2_unasked_39 rfl (lv_at hl 3 rfl) ?_
        refine lv_i2l hx hb dX2_unasked_40 rfl ?_
        refine lv_lconst (v := 0) hx hb dX2_unasked_41 (by decide) ?_
        refine lv_aload_n hx hb dX2_unasked_42 rfl (lv_at hl 0 rfl) ?_
        refine mg_65 hx hb hts hown hE hR dX2_unasked_43 ?_
        refine lv_iload_n hx hb dX2_unasked_46 rfl (lv_at hl 1 rfl) ?_
        obtain ⟨hi_47, hw⟩ := hw
        refine ma_65 hx hb hE hR hi_47 dX2_unasked_47 ?_
        refine lv_iconst (v := 1) hx hb dX2_unasked_48 (by decide) ?_
        refine lv_isub hx hb dX2_unasked_49 ?_
        refine lv_i2l hx hb dX2_unasked_50 rfl ?_
        refine mc_si (As := [.long (x3).toInt64, .long (0 : Int64), .long ((mga σ 65 x1.toNatClampNeg) - 1).toInt64]) (rest := []) X (mM_in l (x3).toInt64 (0 : Int64) ((mga σ 65 x1.toNatClampNeg) - 1).toInt64 _ hw) (lw_S q2198 q2199 q_ini2 q2200) hd2_in (mm_le hRf rfl) (mm_le hRl rfl) rfl rfl (Nat.le_of_ble_eq_true rfl) dX2_unasked_51 hR hS hl.1 (fun r51 H locs hw hR hS => ?_)
        refine lv_if_eq (tgt := 61) hx hb dX2_unasked_54 (by decide) (fun c_54 => ?_) (fun c_54 => ?_)
        · have hw := hw.1 c_54
          exact hJ61 x2 x3 hw H locs ls hR hS (lv_sub hl [2, 3] rfl)
        · have hw := hw.2 c_54
          refine lv_iconst (v := 1) hx hb dX2_unasked_57 (by decide) ?_
          refine lv_goto (tgt := 62) hx hb dX2_unasked_58 (by decide) ?_
          exact hJ62 x2 x3 (1 : Int32) hw H locs ls hR hS (lv_sub hl [2, 3] rfl)
    · have hw := hw.2 c_15
      refine lv_bipush (v := (-11)) hx hb dX2_unasked_18 (by decide) ?_
      exact hret _ _ _ _ _ _ ⟨rfl, hw⟩ hR hS dX2_unasked_20
  · have hw := hw.1 c_4
    refine lv_iconst (v := (-1)) hx hb dX2_unasked_7 (by decide) ?_
    exact hret _ _ _ _ _ _ ⟨rfl, hw⟩ hR hS dX2_unasked_8
def wM_slope (σ : mS) (x1 : Int32) (x2 : Int32) (x3 : Int32) (x4 : Int32) (Q : Int64 → Prop) : Prop :=
  wM_unasked σ x1 x2 x3 (fun r4 => ((r4 = 0 → wM_in (x4).toInt64 (0 : Int64) (1 : Int64) (fun r15 => ((r15 = 0 → Q ((-9223372036854775808) : Int64)) ∧ (¬ r15 = 0 → wM_item0 σ x1 x2 (fun r28 => wM_item0 σ x1 x3 (fun r34 => ((x4 = 0 → (¬ (x3 - x2).toInt64 = 0 ∧ True)) ∧ (¬ x4 = 0 → (¬ (x3 - x2).toInt64 = 0 ∧ True))) ∧ (∀ y48_0 : Int64, y48_0 = (if x4 = 0 then ((r28 - r34) / (x3 - x2).toInt64) else ((r28 - r34) - (r28 - r34) / (x3 - x2).toInt64 * (x3 - x2).toInt64)) → Q y48_0))))))) ∧ (¬ r4 = 0 → Q ((-9223372036854775808) : Int64))))
set_option maxHeartbeats 4000000 in
theorem mM_slope (l : Launch) (G : mG) (o : Nat) (ρ : Nat → Nat) (hap : mAp o ρ) (σ : mS) (x1 : Int32) (x2 : Int32) (x3 : Int32) (x4 : Int32) (Q : Int64 → Prop) (hw : wM_slope σ x1 x2 x3 x4 Q) : mMetL l G yX2_slope (ws_ yX2_slope cX2_slope 9 (some .long)) 2 49 o ρ [.ref o, .int x1, .int x2, .int x3, .int x4] σ (fun r τ => σ = τ ∧ Q r) := by
  refine mo_L plain2 rfl (Nat.le_of_ble_eq_true rfl) ?_
  intro p e s R m args below meth c QQ X hRf hRl hret
  obtain ⟨hx, hb, hml, hown, hts, hE⟩ := id X
  intro H ls hR hS hl
  have hl : lv_has ls 9 [(0, .ref o), (1, .int x1), (2, .int x2), (3, .int x3), (4, .int x4)] := hl
  generalize ([] : List Loc) = locs at hS ⊢
  unfold wM_slope at hw
  refine lv_aload_n hx hb dX2_slope_0 rfl (lv_at hl 0 rfl) ?_
  refine lv_iload_n hx hb dX2_slope_1 rfl (lv_at hl 1 rfl) ?_
  refine lv_iload_n hx hb dX2_slope_2 rfl (lv_at hl 2 rfl) ?_
  refine lv_iload_n hx hb dX2_slope_3 rfl (lv_at hl 3 rfl) ?_
  refine mc_vir (As := [.int x1, .int x2, .int x3]) (rest := []) X (mM_unasked l G o ρ hap σ x1 x2 x3 _ hw) (lw_V q2554 q2556 qs100 q_ini2 q2557) hd2_unasked (mm_le hRf rfl) (mm_le hRl rfl) rfl rfl (Nat.le_of_ble_eq_true rfl) dX2_slope_4 hR hS hl.1 (fun r4 H locs hw hR hS => ?_)
  refine lv_if_ne (tgt := 21) hx hb dX2_slope_7 (by decide) (fun c_7 => ?_) (fun c_7 => ?_)
  · have hw := hw.2 c_7
    refine lv_ldc2 (v := (-9223372036854775808)) hx hb hown (hts _ q2264) dX2_slope_21 ?_
    exact hret _ _ _ _ _ _ ⟨rfl, hw⟩ hR hS dX2_slope_24
  · have hw := hw.1 c_7
    refine lv_iload hx hb dX2_slope_10 (lv_at hl 4 rfl) ?_
    refine lv_i2l hx hb dX2_slope_12 rfl ?_
    refine lv_lconst (v := 0) hx hb dX2_slope_13 (by decide) ?_
    refine lv_lconst (v := 1) hx hb dX2_slope_14 (by decide) ?_
    refine mc_si (As := [.long (x4).toInt64, .long (0 : Int64), .long (1 : Int64)]) (rest := []) X (mM_in l (x4).toInt64 (0 : Int64) (1 : Int64) _ hw) (lw_S q2198 q2199 q_ini2 q2200) hd2_in (mm_le hRf rfl) (mm_le hRl rfl) rfl rfl (Nat.le_of_ble_eq_true rfl) dX2_slope_15 hR hS hl.1 (fun r15 H locs hw hR hS => ?_)
    refine lv_if_ne (tgt := 25) hx hb dX2_slope_18 (by decide) (fun c_18 => ?_) (fun c_18 => ?_)
    · have hw := hw.2 c_18
      refine lv_aload_n hx hb dX2_slope_25 rfl (lv_at hl 0 rfl) ?_
      refine lv_iload_n hx hb dX2_slope_26 rfl (lv_at hl 1 rfl) ?_
      refine lv_iload_n hx hb dX2_slope_27 rfl (lv_at hl 2 rfl) ?_
      refine mc_vlr (As := [.int x1, .int x2]) (rest := []) X (mM_item0 l G o ρ hap σ x1 x2 _ hw) (lw_V q2542 q2544 qs98 q_ini2 q2545) hd2_item0 (mm_le hRf rfl) (mm_le hRl rfl) rfl rfl (Nat.le_of_ble_eq_true rfl) dX2_slope_28 hR hS hl.1 (fun r28 H locs hw hR hS => ?_)
      refine lv_aload_n hx hb dX2_slope_31 rfl (lv_at hl 0 rfl) ?_
      refine lv_iload_n hx hb dX2_slope_32 rfl (lv_at hl 1 rfl) ?_
      refine lv_iload_n hx hb dX2_slope_33 rfl (lv_at hl 3 rfl) ?_
      refine mc_vlr (As := [.int x1, .int x3]) (rest := [.long r28]) X (mM_item0 l G o ρ hap σ x1 x3 _ hw) (lw_V q2542 q2544 qs98 q_ini2 q2545) hd2_item0 (mm_le hRf rfl) (mm_le hRl rfl) rfl rfl (Nat.le_of_ble_eq_true rfl) dX2_slope_34 hR hS hl.1 (fun r34 H locs hw hR hS => ?_)
      refine lv_lsub hx hb dX2_slope_37 ?_
      refine lv_lstore (lv' := [(5, .long (r28 - r34)), (0, .ref o), (1, .int x1), (2, .int x2), (3, .int x3), (4, .int x4)]) hx hb dX2_slope_38 hl (by decide) rfl (fun ls hl => ?_)
      refine lv_iload_n hx hb dX2_slope_40 rfl (lv_at hl 4 rfl) ?_
      refine lv_iload_n hx hb dX2_slope_41 rfl (lv_at hl 3 rfl) ?_
      refine lv_isub hx hb dX2_slope_42 ?_
      refine lv_i2l hx hb dX2_slope_43 rfl ?_
      refine lv_lstore (lv' := [(7, .long (x3 - x2).toInt64), (5, .long (r28 - r34)), (0, .ref o), (1, .int x1), (2, .int x2), (3, .int x3), (4, .int x4)]) hx hb dX2_slope_44 hl (by decide) rfl (fun ls hl => ?_)
      refine lv_iload hx hb dX2_slope_46 (lv_at hl 6 rfl) ?_
      obtain ⟨hg, hw⟩ := hw
      have hK48 : ∀ (y48_0 : Int64), y48_0 = (if x4 = 0 then ((r28 - r34) / (x3 - x2).toInt64) else ((r28 - r34) - (r28 - r34) / (x3 - x2).toInt64 * (x3 - x2).toInt64)) → ∀ (ls : Array Slot), lv_has ls 9 [] → W p l e R s m args below meth c H locs 0 0 QQ (F0 m 64 ls [.long y48_0]) := by
        intro y48_0 e_y48_0 ls hl
        have hw := hw y48_0 e_y48_0
        exact hret _ _ _ _ _ _ ⟨rfl, hw⟩ hR hS dX2_slope_64
      refine lv_if_ne (tgt := 59) hx hb dX2_slope_48 (by decide) (fun c_48 => ?_) (fun c_48 => ?_)
      · have hg := hg.2 c_48
        refine lv_lload hx hb dX2_slope_59 (lv_at hl 1 rfl) ?_
        refine lv_lload hx hb dX2_slope_61 (lv_at hl 0 rfl) ?_
        obtain ⟨hz_63, hg⟩ := hg
        refine lv_lrem hx hb dX2_slope_63 hz_63 ?_
        exact hK48 _ (if_neg c_48).symm ls (lv_sub hl [] rfl)
      · have hg := hg.1 c_48
        refine lv_lload hx hb dX2_slope_51 (lv_at hl 1 rfl) ?_
        refine lv_lload hx hb dX2_slope_53 (lv_at hl 0 rfl) ?_
        obtain ⟨hz_55, hg⟩ := hg
        refine lv_ldiv hx hb dX2_slope_55 hz_55 ?_
        refine lv_goto (tgt := 64) hx hb dX2_slope_56 (by decide) ?_
        exact hK48 _ (if_pos c_48).symm ls (lv_sub hl [] rfl)
    · have hw := hw.1 c_18
      refine lv_ldc2 (v := (-9223372036854775808)) hx hb hown (hts _ q2264) dX2_slope_21 ?_
      exact hret _ _ _ _ _ _ ⟨rfl, hw⟩ hR hS dX2_slope_24
def wM_whyNot (σ : mS) (x1 : Int32) (x2 : Int32) (x3 : Int32) (Q : Int32 → Prop) : Prop :=
  wM_unasked σ x1 x2 x3 (fun r4 => Q r4)
set_option maxHeartbeats 4000000 in
theorem mM_whyNot (l : Launch) (G : mG) (o : Nat) (ρ : Nat → Nat) (hap : mAp o ρ) (σ : mS) (x1 : Int32) (x2 : Int32) (x3 : Int32) (Q : Int32 → Prop) (hw : wM_whyNot σ x1 x2 x3 Q) : mMetI l G yX2_whyNot (ws_ yX2_whyNot cX2_whyNot 4 (some .int)) 2 49 o ρ [.ref o, .int x1, .int x2, .int x3] σ (fun r τ => σ = τ ∧ Q r) := by
  refine mo_I plain2 rfl (Nat.le_of_ble_eq_true rfl) ?_
  intro p e s R m args below meth c QQ X hRf hRl hret
  obtain ⟨hx, hb, hml, hown, hts, hE⟩ := id X
  intro H ls hR hS hl
  have hl : lv_has ls 4 [(0, .ref o), (1, .int x1), (2, .int x2), (3, .int x3)] := hl
  generalize ([] : List Loc) = locs at hS ⊢
  unfold wM_whyNot at hw
  refine lv_aload_n hx hb dX2_whyNot_0 rfl (lv_at hl 0 rfl) ?_
  refine lv_iload_n hx hb dX2_whyNot_1 rfl (lv_at hl 1 rfl) ?_
  refine lv_iload_n hx hb dX2_whyNot_2 rfl (lv_at hl 2 rfl) ?_
  refine lv_iload_n hx hb dX2_whyNot_3 rfl (lv_at hl 3 rfl) ?_
  refine mc_vir (As := [.int x1, .int x2, .int x3]) (rest := []) X (mM_unasked l G o ρ hap σ x1 x2 x3 _ hw) (lw_V q2554 q2556 qs100 q_ini2 q2557) hd2_unasked (mm_le hRf rfl) (mm_le hRl rfl) rfl rfl (Nat.le_of_ble_eq_true rfl) dX2_whyNot_4 hR hS hl.1 (fun r4 H locs hw hR hS => ?_)
  exact hret _ _ _ _ _ _ ⟨rfl, hw⟩ hR hS dX2_whyNot_7
def wM_lowest (σ : mS) (x1 : Int32) (x2 : Int32) (Q : Int32 → Prop) : Prop :=
  vp_in x1 4 ∧ (∀ y6_0 : Int32, y6_0 = (if (mga σ 64 x1.toNatClampNeg) = 0 then (x2).toInt8.toInt32 else x2) → Q y6_0)
set_option maxHeartbeats 4000000 in
theorem mM_lowest (l : Launch) (G : mG) (o : Nat) (ρ : Nat → Nat) (hap : mAp o ρ) (σ : mS) (x1 : Int32) (x2 : Int32) (Q : Int32 → Prop) (hw : wM_lowest σ x1 x2 Q) : mMetI l G yX2_lowest (ws_ yX2_lowest cX2_lowest 3 (some .int)) 0 0 o ρ [.ref o, .int x1, .int x2] σ (fun r τ => σ = τ ∧ Q r) := by
  refine mo_I plain2 rfl (Nat.le_of_ble_eq_true rfl) ?_
  intro p e s R m args below meth c QQ X hRf hRl hret
  obtain ⟨hx, hb, hml, hown, hts, hE⟩ := id X
  intro H ls hR hS hl
  have hl : lv_has ls 3 [(0, .ref o), (1, .int x1), (2, .int x2)] := hl
  generalize ([] : List Loc) = locs at hS ⊢
  unfold wM_lowest at hw
  refine lv_aload_n hx hb dX2_lowest_0 rfl (lv_at hl 0 rfl) ?_
  refine mg_64 hx hb hts hown hE hR dX2_lowest_1 ?_
  refine lv_iload_n hx hb dX2_lowest_4 rfl (lv_at hl 1 rfl) ?_
  obtain ⟨hi_5, hw⟩ := hw
  refine ma_64 hx hb hE hR hi_5 dX2_lowest_5 ?_
  have hK6 : ∀ (y6_0 : Int32), y6_0 = (if (mga σ 64 x1.toNatClampNeg) = 0 then (x2).toInt8.toInt32 else x2) → ∀ (ls : Array Slot), lv_has ls 3 [] → W p l e R s m args below meth c H locs 0 0 QQ (F0 m 15 ls [.int y6_0]) := by
    intro y6_0 e_y6_0 ls hl
    have hw := hw y6_0 e_y6_0
    exact hret _ _ _ _ _ _ ⟨rfl, hw⟩ hR hS dX2_lowest_15
  refine lv_if_ne (tgt := 14) hx hb dX2_lowest_6 (by decide) (fun c_6 => ?_) (fun c_6 => ?_)
  · refine lv_iload_n hx hb dX2_lowest_14 rfl (lv_at hl 2 rfl) ?_
    exact hK6 _ (if_neg c_6).symm ls (lv_sub hl [] rfl)
  · refine lv_iload_n hx hb dX2_lowest_9 rfl (lv_at hl 2 rfl) ?_
    refine lv_i2b hx hb dX2_lowest_10 rfl ?_
    refine lv_goto (tgt := 15) hx hb dX2_lowest_11 (by decide) ?_
    exact hK6 _ (if_pos c_6).symm ls (lv_sub hl [] rfl)
def wM_spill_l54  (Q : Int32 → mS → Prop)  (x1 : Int32) (x2 : Int32) (x3 : Int32) : Nat → mS → Int32 → Prop
  | 0, _, _ => False
  | n + 1, σ, x4 => (((9 : Int32) ≤ x4 → Q x4 σ) ∧ (¬ (9 : Int32) ≤ x4 → vp_in x2 4 ∧ ((((mga σ 65 x2.toNatClampNeg) ≤ (x3 + x4) → Q x4 σ) ∧ (¬ (mga σ 65 x2.toNatClampNeg) ≤ (x3 + x4) → wM_point0 σ x1 x4 (fun r93 => wM_lowest σ x2 r93 (fun r96 => vp_in (((40 * x2) + x3) + x4) 160 ∧ (∀ σ99 : mS, σ99 = mpa σ 66 (((40 * x2) + x3) + x4).toNatClampNeg r96 → wM_spill_l54  Q  x1 x2 x3 n σ99 (x4 + 1)))))))))
def wM_spill (σ : mS) (x1 : Int32) (x2 : Int32) (x3 : Int32) (Q : Int32 → mS → Prop) : Prop :=
  wM_isSheet x2 (fun r1 => ((r1 = 0 → Q ((-1) : Int32) σ) ∧ (¬ r1 = 0 → wM_isKnot σ x1 (fun r11 => ((r11 = 0 → Q ((-2) : Int32) σ) ∧ (¬ r11 = 0 → vp_in x2 4 ∧ (((0 ≤ (mga σ 64 x2.toNatClampNeg) → vp_in x2 4 ∧ (wM_in (x3).toInt64 (0 : Int64) (mga σ 65 x2.toNatClampNeg).toInt64 (fun r42 => ((r42 = 0 → Q ((-12) : Int32) σ) ∧ (¬ r42 = 0 → (∃ k54 : Nat, wM_spill_l54  Q  x1 x2 x3 k54 σ (0 : Int32))))))) ∧ (¬ 0 ≤ (mga σ 64 x2.toNatClampNeg) → Q ((-11) : Int32) σ)))))))))
set_option maxHeartbeats 4000000 in
theorem mM_spill (l : Launch) (G : mG) (o : Nat) (ρ : Nat → Nat) (hap : mAp o ρ) (σ : mS) (x1 : Int32) (x2 : Int32) (x3 : Int32) (Q : Int32 → mS → Prop) (hw : wM_spill σ x1 x2 x3 Q) : mMetI l G yX2_spill (ws_ yX2_spill cX2_spill 5 (some .int)) 2 46 o ρ [.ref o, .int x1, .int x2, .int x3] σ Q := by
  refine mo_I plain2 rfl (Nat.le_of_ble_eq_true rfl) ?_
  intro p e s R m args below meth c QQ X hRf hRl hret
  obtain ⟨hx, hb, hml, hown, hts, hE⟩ := id X
  have hL54 : ∀ (x1 : Int32) (x2 : Int32) (x3 : Int32) (n54 : Nat) (σ : mS) (x4 : Int32), wM_spill_l54  Q  x1 x2 x3 n54 σ x4 → ∀ (H : Heap) (locs : List Loc) (ls : Array Slot), mR G o ρ σ H → va_S (mA o ρ) s.heap H locs → lv_has ls 5 [(0, .ref o), (1, .int x1), (2, .int x2), (3, .int x3), (4, .int x4)] → W p l e R s m args below meth c H locs 0 0 QQ (F0 m 54 ls []) := by
    intro x1 x2 x3 n54
    induction n54 with
    | zero => intro σ x4 hw; exact hw.elim
    | succ n54 ih54 =>
      intro σ x4 hw H locs ls hR hS hl
      rw [wM_spill_l54] at hw
      refine lv_iload hx hb dX2_spill_54 (lv_at hl 4 rfl) ?_
      refine lv_bipush (v := 9) hx hb dX2_spill_56 (by decide) ?_
      refine lv_icmp_ge (tgt := 106) hx hb dX2_spill_58 (by decide) (fun c_58 => ?_) (fun c_58 => ?_)
      · have hw := hw.1 c_58
        refine lv_iload hx hb dX2_spill_106 (lv_at hl 4 rfl) ?_
        exact hret _ _ _ _ _ _ hw hR hS dX2_spill_108
      · have hw := hw.2 c_58
        refine lv_iload_n hx hb dX2_spill_61 rfl (lv_at hl 3 rfl) ?_
        refine lv_iload hx hb dX2_spill_62 (lv_at hl 4 rfl) ?_
        refine lv_iadd hx hb dX2_spill_64 ?_
        refine lv_aload_n hx hb dX2_spill_65 rfl (lv_at hl 0 rfl) ?_
        refine mg_65 hx hb hts hown hE hR dX2_spill_66 ?_
        refine lv_iload_n hx hb dX2_spill_69 rfl (lv_at hl 2 rfl) ?_
        obtain ⟨hi_70, hw⟩ := hw
        refine ma_65 hx hb hE hR hi_70 dX2_spill_70 ?_
        refine lv_icmp_ge (tgt := 106) hx hb dX2_spill_71 (by decide) (fun c_71 => ?_) (fun c_71 => ?_)
        · have hw := hw.1 c_71
          refine lv_iload hx hb dX2_spill_106 (lv_at hl 4 rfl) ?_
          exact hret _ _ _ _ _ _ hw hR hS dX2_spill_108
        · have hw := hw.2 c_71
          refine lv_aload_n hx hb dX2_spill_74 rfl (lv_at hl 0 rfl) ?_
          refine mg_66 hx hb hts hown hE hR dX2_spill_75 ?_
          refine lv_bipush (v := 40) hx hb dX2_spill_78 (by decide) ?_
          refine lv_iload_n hx hb dX2_spill_80 rfl (lv_at hl 2 rfl) ?_
          refine lv_imul hx hb dX2_spill_81 ?_
          refine lv_iload_n hx hb dX2_spill_82 rfl (lv_at hl 3 rfl) ?_
          refine lv_iadd hx hb dX2_spill_83 ?_
          refine lv_iload hx hb dX2_spill_84 (lv_at hl 4 rfl) ?_
          refine lv_iadd hx hb dX2_spill_86 ?_
          refine lv_aload_n hx hb dX2_spill_87 rfl (lv_at hl 0 rfl) ?_
          refine lv_iload_n hx hb dX2_spill_88 rfl (lv_at hl 2 rfl) ?_
          refine lv_aload_n hx hb dX2_spill_89 rfl (lv_at hl 0 rfl) ?_
          refine lv_iload_n hx hb dX2_spill_90 rfl (lv_at hl 1 rfl) ?_
          refine lv_iload hx hb dX2_spill_91 (lv_at hl 4 rfl) ?_
          refine mc_vir (As := [.int x1, .int x4]) (rest := [.int x2, .ref o, .int (((40 * x2) + x3) + x4), .ref (ρ 66)]) X (mM_point0 l G o ρ hap σ x1 x4 _ hw) (lw_V q2407 q2409 qs81 q_ini2 q2410) hd2_point0 (mm_le hRf rfl) (mm_le hRl rfl) rfl rfl (Nat.le_of_ble_eq_true rfl) dX2_spill_93 hR hS hl.1 (fun r93 H locs hw hR hS => ?_)
          refine mc_vir (As := [.int x2, .int r93]) (rest := [.int (((40 * x2) + x3) + x4), .ref (ρ 66)]) X (mM_lowest l G o ρ hap σ x2 r93 _ hw) (lw_V q2566 q2568 qs101 q_ini2 q2569) hd2_lowest (mm_le hRf rfl) (mm_le hRl rfl) rfl rfl (Nat.le_of_ble_eq_true rfl) dX2_spill_96 hR hS hl.1 (fun r96 H locs hw hR hS => ?_)
          obtain ⟨hi_99, hw⟩ := hw
          refine mst_66 hx hb hE hap hR hS hi_99 dX2_spill_99 (fun σ99 e_σ99 H locs hR hS => ?_)
          have hw := hw σ99 e_σ99
          clear e_σ99
          refine lv_iinc (k := 4) (lv' := [(4, .int (x4 + 1)), (0, .ref o), (1, .int x1), (2, .int x2), (3, .int x3)]) hx hb dX2_spill_100 hl rfl (congrArg (x4 + ·) (by decide : Int32.ofInt 1 = 1)) (by decide) rfl (fun ls hl => ?_)
          refine lv_goto (tgt := 54) hx hb dX2_spill_103 (by decide) ?_
          exact ih54 σ99 (x4 + 1) hw H locs ls hR hS (lv_sub hl [1, 2, 3, 4, 0] rfl)
  intro H ls hR hS hl
  have hl : lv_has ls 5 [(0, .ref o), (1, .int x1), (2, .int x2), (3, .int x3)] := hl
  generalize ([] : List Loc) = locs at hS ⊢
  unfold wM_spill at hw
  refine lv_iload_n hx hb dX2_spill_0 rfl (lv_at hl 2 rfl) ?_
  refine mc_si (As := [.int x2]) (rest := []) X (mM_isSheet l x2 _ hw) (lw_S q2539 q2540 q_ini2 q2541) hd2_isSheet (mm_le hRf rfl) (mm_le hRl rfl) rfl rfl (Nat.le_of_ble_eq_true rfl) dX2_spill_1 hR hS hl.1 (fun r1 H locs hw hR hS => ?_)
  refine lv_if_ne (tgt := 9) hx hb dX2_spill_4 (by decide) (fun c_4 => ?_) (fun c_4 => ?_)
  · have hw := hw.2 c_4
    refine lv_aload_n hx hb dX2_spill_9 rfl (lv_at hl 0 rfl) ?_
    refine lv_iload_n hx hb dX2_spill_10 rfl (lv_at hl 1 rfl) ?_
    refine mc_vir (As := [.int x1]) (rest := []) X (mM_isKnot l G o ρ hap σ x1 _ hw) (lw_V q2476 q2478 qs95 q_ini2 q2479) hd2_isKnot (mm_le hRf rfl) (mm_le hRl rfl) rfl rfl (Nat.le_of_ble_eq_true rfl) dX2_spill_11 hR hS hl.1 (fun r11 H locs hw hR hS => ?_)
    refine lv_if_ne (tgt := 20) hx hb dX2_spill_14 (by decide) (fun c_14 => ?_) (fun c_14 => ?_)
    · have hw := hw.2 c_14
      refine lv_aload_n hx hb dX2_spill_20 rfl (lv_at hl 0 rfl) ?_
      refine mg_64 hx hb hts hown hE hR dX2_spill_21 ?_
      refine lv_iload_n hx hb dX2_spill_24 rfl (lv_at hl 2 rfl) ?_
      obtain ⟨hi_25, hw⟩ := hw
      refine ma_64 hx hb hE hR hi_25 dX2_spill_25 ?_
      refine lv_if_ge (tgt := 32) hx hb dX2_spill_26 (by decide) (fun c_26 => ?_) (fun c_26 => ?_)
      · have hw := hw.1 c_26
        refine lv_iload_n hx hb dX2_spill_32 rfl (lv_at hl 3 rfl) ?_
        refine lv_i2l hx hb dX2_spill_33 rfl ?_
        refine lv_lconst (v := 0) hx hb dX2_spill_34 (by decide) ?_
        refine lv_aload_n hx hb dX2_spill_35 rfl (lv_at hl 0 rfl) ?_
        refine mg_65 hx hb hts hown hE hR dX2_spill_36 ?_
        refine lv_iload_n hx hb dX2_spill_39 rfl (lv_at hl 2 rfl) ?_
        obtain ⟨hi_40, hw⟩ := hw
        refine ma_65 hx hb hE hR hi_40 dX2_spill_40 ?_
        refine lv_i2l hx hb dX2_spill_41 rfl ?_
        refine mc_si (As := [.long (x3).toInt64, .long (0 : Int64), .long (mga σ 65 x2.toNatClampNeg).toInt64]) (rest := []) X (mM_in l (x3).toInt64 (0 : Int64) (mga σ 65 x2.toNatClampNeg).toInt64 _ hw) (lw_S q2198 q2199 q_ini2 q2200) hd2_in (mm_le hRf rfl) (mm_le hRl rfl) rfl rfl (Nat.le_of_ble_eq_true rfl) dX2_spill_42 hR hS hl.1 (fun r42 H locs hw hR hS => ?_)
        refine lv_if_ne (tgt := 51) hx hb dX2_spill_45 (by decide) (fun c_45 => ?_) (fun c_45 => ?_)
        · have hw := hw.2 c_45
          refine lv_iconst (v := 0) hx hb dX2_spill_51 (by decide) ?_
          refine lv_istore (lv' := [(4, .int 0), (0, .ref o), (1, .int x1), (2, .int x2), (3, .int x3)]) hx hb dX2_spill_52 hl (by decide) rfl (fun ls hl => ?_)
          obtain ⟨n54, hw⟩ := hw
          exact hL54 x1 x2 x3 n54 σ (0 : Int32) hw H locs ls hR hS (lv_sub hl [1, 2, 3, 4, 0] rfl)
        · have hw := hw.1 c_45
          refine lv_bipush (v := (-12)) hx hb dX2_spill_48 (by decide) ?_
          exact hret _ _ _ _ _ _ hw hR hS dX2_spill_50
      · have hw := hw.2 c_26
        refine lv_bipush (v := (-11)) hx hb dX2_spill_29 (by decide) ?_
        exact hret _ _ _ _ _ _ hw hR hS dX2_spill_31
    · have hw := hw.1 c_14
      refine lv_bipush (v := (-2)) hx hb dX2_spill_17 (by decide) ?_
      exact hret _ _ _ _ _ _ hw hR hS dX2_spill_19
  · have hw := hw.1 c_4
    refine lv_iconst (v := (-1)) hx hb dX2_spill_7 (by decide) ?_
    exact hret _ _ _ _ _ _ hw hR hS dX2_spill_8
def wM_sheet_l67  (Q : Int32 → mS → Prop)  (x1 : Int32) : Nat → mS → Int32 → Prop
  | 0, _, _ => False
  | n + 1, σ, x4 => (((40 : Int32) ≤ x4 → Q (1 : Int32) σ) ∧ (¬ (40 : Int32) ≤ x4 → vp_in ((40 * x1) + x4) 160 ∧ (∀ σ86 : mS, σ86 = mpa σ 66 ((40 * x1) + x4).toNatClampNeg 0 → wM_sheet_l67  Q  x1 n σ86 (x4 + 1))))
def wM_sheet_j42  (Q : Int32 → mS → Prop) (σ : mS) (x1 : Int32) (x2 : Int32) (x3 : Int32)  : Prop :=
  vp_in x1 4 ∧ (∀ σ48 : mS, σ48 = mpa σ 64 x1.toNatClampNeg x2 → ∀ y55_0 : Int32, y55_0 = (if 0 ≤ x2 then x3 else 0) → vp_in x1 4 ∧ (∀ σ63 : mS, σ63 = mpa σ48 65 x1.toNatClampNeg y55_0 → (∃ k67 : Nat, wM_sheet_l67  Q  x1 k67 σ63 (0 : Int32))))
def wM_sheet_j31  (Q : Int32 → mS → Prop) (σ : mS) (x1 : Int32) (x2 : Int32) (x3 : Int32)  : Prop :=
  ((x2 < 0 → (wM_sheet_j42  Q σ x1 x2 x3)) ∧ (¬ x2 < 0 → ((0 ≤ x3 → (wM_sheet_j42  Q σ x1 x2 x3)) ∧ (¬ 0 ≤ x3 → Q ((-14) : Int32) σ))))
def wM_sheet (σ : mS) (x1 : Int32) (x2 : Int32) (x3 : Int32) (Q : Int32 → mS → Prop) : Prop :=
  wM_isSheet x1 (fun r1 => ((r1 = 0 → Q ((-1) : Int32) σ) ∧ (¬ r1 = 0 → wM_in (x2).toInt64 ((-1) : Int64) (1 : Int64) (fun r13 => ((r13 = 0 → Q ((-1) : Int32) σ) ∧ (¬ r13 = 0 → ((x2 < 0 → (wM_sheet_j31  Q σ x1 x2 x3)) ∧ (¬ x2 < 0 → ((x3 ≤ (40 : Int32) → (wM_sheet_j31  Q σ x1 x2 x3)) ∧ (¬ x3 ≤ (40 : Int32) → Q ((-1) : Int32) σ))))))))))
set_option maxHeartbeats 4000000 in
theorem mM_sheet (l : Launch) (G : mG) (o : Nat) (ρ : Nat → Nat) (hap : mAp o ρ) (σ : mS) (x1 : Int32) (x2 : Int32) (x3 : Int32) (Q : Int32 → mS → Prop) (hw : wM_sheet σ x1 x2 x3 Q) : mMetI l G yX2_sheet (ws_ yX2_sheet cX2_sheet 5 (some .int)) 1 25 o ρ [.ref o, .int x1, .int x2, .int x3] σ Q := by
  refine mo_I plain2 rfl (Nat.le_of_ble_eq_true rfl) ?_
  intro p e s R m args below meth c QQ X hRf hRl hret
  obtain ⟨hx, hb, hml, hown, hts, hE⟩ := id X
  have hL67 : ∀ (x1 : Int32) (n67 : Nat) (σ : mS) (x4 : Int32), wM_sheet_l67  Q  x1 n67 σ x4 → ∀ (H : Heap) (locs : List Loc) (ls : Array Slot), mR G o ρ σ H → va_S (mA o ρ) s.heap H locs → lv_has ls 5 [(0, .ref o), (1, .int x1), (4, .int x4)] → W p l e R s m args below meth c H locs 0 0 QQ (F0 m 67 ls []) := by
    intro x1 n67
    induction n67 with
    | zero => intro σ x4 hw; exact hw.elim
    | succ n67 ih67 =>
      intro σ x4 hw H locs ls hR hS hl
      rw [wM_sheet_l67] at hw
      refine lv_iload hx hb dX2_sheet_67 (lv_at hl 2 rfl) ?_
      refine lv_bipush (v := 40) hx hb dX2_sheet_69 (by decide) ?_
      refine lv_icmp_ge (tgt := 93) hx hb dX2_sheet_71 (by decide) (fun c_71 => ?_) (fun c_71 => ?_)
      · have hw := hw.1 c_71
        refine lv_iconst (v := 1) hx hb dX2_sheet_93 (by decide) ?_
        exact hret _ _ _ _ _ _ hw hR hS dX2_sheet_94
      · have hw := hw.2 c_71
        refine lv_aload_n hx hb dX2_sheet_74 rfl (lv_at hl 0 rfl) ?_
        refine mg_66 hx hb hts hown hE hR dX2_sheet_75 ?_
        refine lv_bipush (v := 40) hx hb dX2_sheet_78 (by decide) ?_
        refine lv_iload_n hx hb dX2_sheet_80 rfl (lv_at hl 1 rfl) ?_
        refine lv_imul hx hb dX2_sheet_81 ?_
        refine lv_iload hx hb dX2_sheet_82 (lv_at hl 2 rfl) ?_
        refine lv_iadd hx hb dX2_sheet_84 ?_
        refine lv_iconst (v := 0) hx hb dX2_sheet_85 (by decide) ?_
        obtain ⟨hi_86, hw⟩ := hw
        refine mst_66 hx hb hE hap hR hS hi_86 dX2_sheet_86 (fun σ86 e_σ86 H locs hR hS => ?_)
        have hw := hw σ86 e_σ86
        clear e_σ86
        refine lv_iinc (k := 2) (lv' := [(4, .int (x4 + 1)), (0, .ref o), (1, .int x1)]) hx hb dX2_sheet_87 hl rfl (congrArg (x4 + ·) (by decide : Int32.ofInt 1 = 1)) (by decide) rfl (fun ls hl => ?_)
        refine lv_goto (tgt := 67) hx hb dX2_sheet_90 (by decide) ?_
        exact ih67 σ86 (x4 + 1) hw H locs ls hR hS (lv_sub hl [1, 2, 0] rfl)
  have hJ42 : ∀ (σ : mS) (x1 : Int32) (x2 : Int32) (x3 : Int32), wM_sheet_j42  Q σ x1 x2 x3 → ∀ (H : Heap) (locs : List Loc) (ls : Array Slot), mR G o ρ σ H → va_S (mA o ρ) s.heap H locs → lv_has ls 5 [(0, .ref o), (1, .int x1), (2, .int x2), (3, .int x3)] → W p l e R s m args below meth c H locs 0 0 QQ (F0 m 42 ls []) := by
    intro σ x1 x2 x3 hw H locs ls hR hS hl
    unfold wM_sheet_j42 at hw
    refine lv_aload_n hx hb dX2_sheet_42 rfl (lv_at hl 0 rfl) ?_
    refine mg_64 hx hb hts hown hE hR dX2_sheet_43 ?_
    refine lv_iload_n hx hb dX2_sheet_46 rfl (lv_at hl 1 rfl) ?_
    refine lv_iload_n hx hb dX2_sheet_47 rfl (lv_at hl 2 rfl) ?_
    obtain ⟨hi_48, hw⟩ := hw
    refine mst_64 hx hb hE hap hR hS hi_48 dX2_sheet_48 (fun σ48 e_σ48 H locs hR hS => ?_)
    have hw := hw σ48 e_σ48
    clear e_σ48
    refine lv_aload_n hx hb dX2_sheet_49 rfl (lv_at hl 0 rfl) ?_
    refine mg_65 hx hb hts hown hE hR dX2_sheet_50 ?_
    refine lv_iload_n hx hb dX2_sheet_53 rfl (lv_at hl 1 rfl) ?_
    refine lv_iload_n hx hb dX2_sheet_54 rfl (lv_at hl 2 rfl) ?_
    have hK55 : ∀ (y55_0 : Int32), y55_0 = (if 0 ≤ x2 then x3 else 0) → ∀ (ls : Array Slot), lv_has ls 5 [(0, .ref o), (1, .int x1)] → W p l e R s m args below meth c H locs 0 0 QQ (F0 m 63 ls [.int y55_0, .int x1, .ref (ρ 65)]) := by
      intro y55_0 e_y55_0 ls hl
      have hw := hw y55_0 e_y55_0
      obtain ⟨hi_63, hw⟩ := hw
      refine mst_65 hx hb hE hap hR hS hi_63 dX2_sheet_63 (fun σ63 e_σ63 H locs hR hS => ?_)
      have hw := hw σ63 e_σ63
      clear e_σ63
      refine lv_iconst (v := 0) hx hb dX2_sheet_64 (by decide) ?_
      refine lv_istore (lv' := [(4, .int 0), (0, .ref o), (1, .int x1)]) hx hb dX2_sheet_65 hl (by decide) rfl (fun ls hl => ?_)
      obtain ⟨n67, hw⟩ := hw
      exact hL67 x1 n67 σ63 (0 : Int32) hw H locs ls hR hS (lv_sub hl [1, 2, 0] rfl)
    refine lv_if_ge (tgt := 62) hx hb dX2_sheet_55 (by decide) (fun c_55 => ?_) (fun c_55 => ?_)
    · refine lv_iload_n hx hb dX2_sheet_62 rfl (lv_at hl 3 rfl) ?_
      exact hK55 _ (if_pos c_55).symm ls (lv_sub hl [0, 1] rfl)
    · refine lv_iconst (v := 0) hx hb dX2_sheet_58 (by decide) ?_
      refine lv_goto (tgt := 63) hx hb dX2_sheet_59 (by decide) ?_
      exact hK55 _ (if_neg c_55).symm ls (lv_sub hl [0, 1] rfl)
  have hJ31 : ∀ (σ : mS) (x1 : Int32) (x2 : Int32) (x3 : Int32), wM_sheet_j31  Q σ x1 x2 x3 → ∀ (H : Heap) (locs : List Loc) (ls : Array Slot), mR G o ρ σ H → va_S (mA o ρ) s.heap H locs → lv_has ls 5 [(0, .ref o), (1, .int x1), (2, .int x2), (3, .int x3)] → W p l e R s m args below meth c H locs 0 0 QQ (F0 m 31 ls []) := by
    intro σ x1 x2 x3 hw H locs ls hR hS hl
    unfold wM_sheet_j31 at hw
    refine lv_iload_n hx hb dX2_sheet_31 rfl (lv_at hl 2 rfl) ?_
    refine lv_if_lt (tgt := 42) hx hb dX2_sheet_32 (by decide) (fun c_32 => ?_) (fun c_32 => ?_)
    · have hw := hw.1 c_32
      exact hJ42 σ x1 x2 x3 hw H locs ls hR hS (lv_sub hl [0, 1, 2, 3] rfl)
    · have hw := hw.2 c_32
      refine lv_iload_n hx hb dX2_sheet_35 rfl (lv_at hl 3 rfl) ?_
      refine lv_if_ge (tgt := 42) hx hb dX2_sheet_36 (by decide) (fun c_36 => ?_) (fun c_36 => ?_)
      · have hw := hw.1 c_36
        exact hJ42 σ x1 x2 x3 hw H locs ls hR hS (lv_sub hl [0, 1, 2, 3] rfl)
      · have hw := hw.2 c_36
        refine lv_bipush (v := (-14)) hx hb dX2_sheet_39 (by decide) ?_
        exact hret _ _ _ _ _ _ hw hR hS dX2_sheet_41
  intro H ls hR hS hl
  have hl : lv_has ls 5 [(0, .ref o), (1, .int x1), (2, .int x2), (3, .int x3)] := hl
  generalize ([] : List Loc) = locs at hS ⊢
  unfold wM_sheet at hw
  refine lv_iload_n hx hb dX2_sheet_0 rfl (lv_at hl 1 rfl) ?_
  refine mc_si (As := [.int x1]) (rest := []) X (mM_isSheet l x1 _ hw) (lw_S q2539 q2540 q_ini2 q2541) hd2_isSheet (mm_le hRf rfl) (mm_le hRl rfl) rfl rfl (Nat.le_of_ble_eq_true rfl) dX2_sheet_1 hR hS hl.1 (fun r1 H locs hw hR hS => ?_)
  refine lv_if_eq (tgt := 29) hx hb dX2_sheet_4 (by decide) (fun c_4 => ?_) (fun c_4 => ?_)
  · have hw := hw.1 c_4
    refine lv_iconst (v := (-1)) hx hb dX2_sheet_29 (by decide) ?_
    exact hret _ _ _ _ _ _ hw hR hS dX2_sheet_30
  · have hw := hw.2 c_4
    refine lv_iload_n hx hb dX2_sheet_7 rfl (lv_at hl 2 rfl) ?_
    refine lv_i2l hx hb dX2_sheet_8 rfl ?_
    refine lv_ldc2 (v := (-1)) hx hb hown (hts _ q2292) dX2_sheet_9 ?_
    refine lv_lconst (v := 1) hx hb dX2_sheet_12 (by decide) ?_
    refine mc_si (As := [.long (x2).toInt64, .long ((-1) : Int64), .long (1 : Int64)]) (rest := []) X (mM_in l (x2).toInt64 ((-1) : Int64) (1 : Int64) _ hw) (lw_S q2198 q2199 q_ini2 q2200) hd2_in (mm_le hRf rfl) (mm_le hRl rfl) rfl rfl (Nat.le_of_ble_eq_true rfl) dX2_sheet_13 hR hS hl.1 (fun r13 H locs hw hR hS => ?_)
    refine lv_if_eq (tgt := 29) hx hb dX2_sheet_16 (by decide) (fun c_16 => ?_) (fun c_16 => ?_)
    · have hw := hw.1 c_16
      refine lv_iconst (v := (-1)) hx hb dX2_sheet_29 (by decide) ?_
      exact hret _ _ _ _ _ _ hw hR hS dX2_sheet_30
    · have hw := hw.2 c_16
      refine lv_iload_n hx hb dX2_sheet_19 rfl (lv_at hl 2 rfl) ?_
      refine lv_if_lt (tgt := 31) hx hb dX2_sheet_20 (by decide) (fun c_20 => ?_) (fun c_20 => ?_)
      · have hw := hw.1 c_20
        exact hJ31 σ x1 x2 x3 hw H locs ls hR hS (lv_sub hl [0, 1, 2, 3] rfl)
      · have hw := hw.2 c_20
        refine lv_iload_n hx hb dX2_sheet_23 rfl (lv_at hl 3 rfl) ?_
        refine lv_bipush (v := 40) hx hb dX2_sheet_24 (by decide) ?_
        refine lv_icmp_le (tgt := 31) hx hb dX2_sheet_26 (by decide) (fun c_26 => ?_) (fun c_26 => ?_)
        · have hw := hw.1 c_26
          exact hJ31 σ x1 x2 x3 hw H locs ls hR hS (lv_sub hl [0, 1, 2, 3] rfl)
        · have hw := hw.2 c_26
          refine lv_iconst (v := (-1)) hx hb dX2_sheet_29 (by decide) ?_
          exact hret _ _ _ _ _ _ hw hR hS dX2_sheet_30
def wM_cell (σ : mS) (x1 : Int32) (x2 : Int32) (x3 : Int32) (Q : Int32 → mS → Prop) : Prop :=
  wM_isSheet x1 (fun r1 => ((r1 = 0 → Q ((-1) : Int32) σ) ∧ (¬ r1 = 0 → vp_in x1 4 ∧ (((0 ≤ (mga σ 64 x1.toNatClampNeg) → vp_in x1 4 ∧ (wM_in (x2).toInt64 (0 : Int64) ((mga σ 65 x1.toNatClampNeg) - 1).toInt64 (fun r33 => ((r33 = 0 → Q ((-12) : Int32) σ) ∧ (¬ r33 = 0 → wM_lowest σ x1 x3 (fun r55 => vp_in ((40 * x1) + x2) 160 ∧ (∀ σ58 : mS, σ58 = mpa σ 66 ((40 * x1) + x2).toNatClampNeg r55 → Q (1 : Int32) σ58))))))) ∧ (¬ 0 ≤ (mga σ 64 x1.toNatClampNeg) → Q ((-11) : Int32) σ))))))
set_option maxHeartbeats 4000000 in
theorem mM_cell (l : Launch) (G : mG) (o : Nat) (ρ : Nat → Nat) (hap : mAp o ρ) (σ : mS) (x1 : Int32) (x2 : Int32) (x3 : Int32) (Q : Int32 → mS → Prop) (hw : wM_cell σ x1 x2 x3 Q) : mMetI l G yX2_cell (ws_ yX2_cell cX2_cell 4 (some .int)) 1 25 o ρ [.ref o, .int x1, .int x2, .int x3] σ Q := by
  refine mo_I plain2 rfl (Nat.le_of_ble_eq_true rfl) ?_
  intro p e s R m args below meth c QQ X hRf hRl hret
  obtain ⟨hx, hb, hml, hown, hts, hE⟩ := id X
  intro H ls hR hS hl
  have hl : lv_has ls 4 [(0, .ref o), (1, .int x1), (2, .int x2), (3, .int x3)] := hl
  generalize ([] : List Loc) = locs at hS ⊢
  unfold wM_cell at hw
  refine lv_iload_n hx hb dX2_cell_0 rfl (lv_at hl 1 rfl) ?_
  refine mc_si (As := [.int x1]) (rest := []) X (mM_isSheet l x1 _ hw) (lw_S q2539 q2540 q_ini2 q2541) hd2_isSheet (mm_le hRf rfl) (mm_le hRl rfl) rfl rfl (Nat.le_of_ble_eq_true rfl) dX2_cell_1 hR hS hl.1 (fun r1 H locs hw hR hS => ?_)
  refine lv_if_ne (tgt := 9) hx hb dX2_cell_4 (by decide) (fun c_4 => ?_) (fun c_4 => ?_)
  · have hw := hw.2 c_4
    refine lv_aload_n hx hb dX2_cell_9 rfl (lv_at hl 0 rfl) ?_
    refine mg_64 hx hb hts hown hE hR dX2_cell_10 ?_
    refine lv_iload_n hx hb dX2_cell_13 rfl (lv_at hl 1 rfl) ?_
    obtain ⟨hi_14, hw⟩ := hw
    refine ma_64 hx hb hE hR hi_14 dX2_cell_14 ?_
    refine lv_if_ge (tgt := 21) hx hb dX2_cell_15 (by decide) (fun c_15 => ?_) (fun c_15 => ?_)
    · have hw := hw.1 c_15
      refine lv_iload_n hx hb dX2_cell_21 rfl (lv_at hl 2 rfl) ?_
      refine lv_i2l hx hb dX2_cell_22 rfl ?_
      refine lv_lconst (v := 0) hx hb dX2_cell_23 (by decide) ?_
      refine lv_aload_n hx hb dX2_cell_24 rfl (lv_at hl 0 rfl) ?_
      refine mg_65 hx hb hts hown hE hR dX2_cell_25 ?_
      refine lv_iload_n hx hb dX2_cell_28 rfl (lv_at hl 1 rfl) ?_
      obtain ⟨hi_29, hw⟩ := hw
      refine ma_65 hx hb hE hR hi_29 dX2_cell_29 ?_
      refine lv_iconst (v := 1) hx hb dX2_cell_30 (by decide) ?_
      refine lv_isub hx hb dX2_cell_31 ?_
      refine lv_i2l hx hb dX2_cell_32 rfl ?_
      refine mc_si (As := [.long (x2).toInt64, .long (0 : Int64), .long ((mga σ 65 x1.toNatClampNeg) - 1).toInt64]) (rest := []) X (mM_in l (x2).toInt64 (0 : Int64) ((mga σ 65 x1.toNatClampNeg) - 1).toInt64 _ hw) (lw_S q2198 q2199 q_ini2 q2200) hd2_in (mm_le hRf rfl) (mm_le hRl rfl) rfl rfl (Nat.le_of_ble_eq_true rfl) dX2_cell_33 hR hS hl.1 (fun r33 H locs hw hR hS => ?_)
      refine lv_if_ne (tgt := 42) hx hb dX2_cell_36 (by decide) (fun c_36 => ?_) (fun c_36 => ?_)
      · have hw := hw.2 c_36
        refine lv_aload_n hx hb dX2_cell_42 rfl (lv_at hl 0 rfl) ?_
        refine mg_66 hx hb hts hown hE hR dX2_cell_43 ?_
        refine lv_bipush (v := 40) hx hb dX2_cell_46 (by decide) ?_
        refine lv_iload_n hx hb dX2_cell_48 rfl (lv_at hl 1 rfl) ?_
        refine lv_imul hx hb dX2_cell_49 ?_
        refine lv_iload_n hx hb dX2_cell_50 rfl (lv_at hl 2 rfl) ?_
        refine lv_iadd hx hb dX2_cell_51 ?_
        refine lv_aload_n hx hb dX2_cell_52 rfl (lv_at hl 0 rfl) ?_
        refine lv_iload_n hx hb dX2_cell_53 rfl (lv_at hl 1 rfl) ?_
        refine lv_iload_n hx hb dX2_cell_54 rfl (lv_at hl 3 rfl) ?_
        refine mc_vir (As := [.int x1, .int x3]) (rest := [.int ((40 * x1) + x2), .ref (ρ 66)]) X (mM_lowest l G o ρ hap σ x1 x3 _ hw) (lw_V q2566 q2568 qs101 q_ini2 q2569) hd2_lowest (mm_le hRf rfl) (mm_le hRl rfl) rfl rfl (Nat.le_of_ble_eq_true rfl) dX2_cell_55 hR hS hl.1 (fun r55 H locs hw hR hS => ?_)
        obtain ⟨hi_58, hw⟩ := hw
        refine mst_66 hx hb hE hap hR hS hi_58 dX2_cell_58 (fun σ58 e_σ58 H locs hR hS => ?_)
        have hw := hw σ58 e_σ58
        clear e_σ58
        refine lv_iconst (v := 1) hx hb dX2_cell_59 (by decide) ?_
        exact hret _ _ _ _ _ _ hw hR hS dX2_cell_60
      · have hw := hw.1 c_36
        refine lv_bipush (v := (-12)) hx hb dX2_cell_39 (by decide) ?_
        exact hret _ _ _ _ _ _ hw hR hS dX2_cell_41
    · have hw := hw.2 c_15
      refine lv_bipush (v := (-11)) hx hb dX2_cell_18 (by decide) ?_
      exact hret _ _ _ _ _ _ hw hR hS dX2_cell_20
  · have hw := hw.1 c_4
    refine lv_iconst (v := (-1)) hx hb dX2_cell_7 (by decide) ?_
    exact hret _ _ _ _ _ _ hw hR hS dX2_cell_8
def wM_item_j34  (Q : Int64 → Prop) (σ : mS)   : Prop :=
  Q ((-9223372036854775808) : Int64)
def wM_item (σ : mS) (x1 : Int32) (x2 : Int32) (Q : Int64 → Prop) : Prop :=
  wM_isSheet x1 (fun r1 => ((r1 = 0 → (wM_item_j34  Q σ )) ∧ (¬ r1 = 0 → vp_in x1 4 ∧ (wM_in (x2).toInt64 (0 : Int64) ((mga σ 65 x1.toNatClampNeg) - 1).toInt64 (fun r19 => ((r19 = 0 → (wM_item_j34  Q σ )) ∧ (¬ r19 = 0 → wM_item0 σ x1 x2 (fun r28 => Q r28))))))))
set_option maxHeartbeats 4000000 in
theorem mM_item (l : Launch) (G : mG) (o : Nat) (ρ : Nat → Nat) (hap : mAp o ρ) (σ : mS) (x1 : Int32) (x2 : Int32) (Q : Int64 → Prop) (hw : wM_item σ x1 x2 Q) : mMetL l G yX2_item (ws_ yX2_item cX2_item 3 (some .long)) 1 25 o ρ [.ref o, .int x1, .int x2] σ (fun r τ => σ = τ ∧ Q r) := by
  refine mo_L plain2 rfl (Nat.le_of_ble_eq_true rfl) ?_
  intro p e s R m args below meth c QQ X hRf hRl hret
  obtain ⟨hx, hb, hml, hown, hts, hE⟩ := id X
  have hJ34 : wM_item_j34  Q σ  → ∀ (H : Heap) (locs : List Loc) (ls : Array Slot), mR G o ρ σ H → va_S (mA o ρ) s.heap H locs → lv_has ls 3 [] → W p l e R s m args below meth c H locs 0 0 QQ (F0 m 34 ls []) := by
    intro  hw H locs ls hR hS hl
    unfold wM_item_j34 at hw
    refine lv_ldc2 (v := (-9223372036854775808)) hx hb hown (hts _ q2264) dX2_item_34 ?_
    exact hret _ _ _ _ _ _ ⟨rfl, hw⟩ hR hS dX2_item_37
  intro H ls hR hS hl
  have hl : lv_has ls 3 [(0, .ref o), (1, .int x1), (2, .int x2)] := hl
  generalize ([] : List Loc) = locs at hS ⊢
  unfold wM_item at hw
  refine lv_iload_n hx hb dX2_item_0 rfl (lv_at hl 1 rfl) ?_
  refine mc_si (As := [.int x1]) (rest := []) X (mM_isSheet l x1 _ hw) (lw_S q2539 q2540 q_ini2 q2541) hd2_isSheet (mm_le hRf rfl) (mm_le hRl rfl) rfl rfl (Nat.le_of_ble_eq_true rfl) dX2_item_1 hR hS hl.1 (fun r1 H locs hw hR hS => ?_)
  refine lv_if_eq (tgt := 34) hx hb dX2_item_4 (by decide) (fun c_4 => ?_) (fun c_4 => ?_)
  · have hw := hw.1 c_4
    exact hJ34  hw H locs ls hR hS (lv_sub hl [] rfl)
  · have hw := hw.2 c_4
    refine lv_iload_n hx hb dX2_item_7 rfl (lv_at hl 2 rfl) ?_
    refine lv_i2l hx hb dX2_item_8 rfl ?_
    refine lv_lconst (v := 0) hx hb dX2_item_9 (by decide) ?_
    refine lv_aload_n hx hb dX2_item_10 rfl (lv_at hl 0 rfl) ?_
    refine mg_65 hx hb hts hown hE hR dX2_item_11 ?_
    refine lv_iload_n hx hb dX2_item_14 rfl (lv_at hl 1 rfl) ?_
    obtain ⟨hi_15, hw⟩ := hw
    refine ma_65 hx hb hE hR hi_15 dX2_item_15 ?_
    refine lv_iconst (v := 1) hx hb dX2_item_16 (by decide) ?_
    refine lv_isub hx hb dX2_item_17 ?_
    refine lv_i2l hx hb dX2_item_18 rfl ?_
    refine mc_si (As := [.long (x2).toInt64, .long (0 : Int64), .long ((mga σ 65 x1.toNatClampNeg) - 1).toInt64]) (rest := []) X (mM_in l (x2).toInt64 (0 : Int64) ((mga σ 65 x1.toNatClampNeg) - 1).toInt64 _ hw) (lw_S q2198 q2199 q_ini2 q2200) hd2_in (mm_le hRf rfl) (mm_le hRl rfl) rfl rfl (Nat.le_of_ble_eq_true rfl) dX2_item_19 hR hS hl.1 (fun r19 H locs hw hR hS => ?_)
    refine lv_if_eq (tgt := 34) hx hb dX2_item_22 (by decide) (fun c_22 => ?_) (fun c_22 => ?_)
    · have hw := hw.1 c_22
      exact hJ34  hw H locs ls hR hS (lv_sub hl [] rfl)
    · have hw := hw.2 c_22
      refine lv_aload_n hx hb dX2_item_25 rfl (lv_at hl 0 rfl) ?_
      refine lv_iload_n hx hb dX2_item_26 rfl (lv_at hl 1 rfl) ?_
      refine lv_iload_n hx hb dX2_item_27 rfl (lv_at hl 2 rfl) ?_
      refine mc_vlr (As := [.int x1, .int x2]) (rest := []) X (mM_item0 l G o ρ hap σ x1 x2 _ hw) (lw_V q2542 q2544 qs98 q_ini2 q2545) hd2_item0 (mm_le hRf rfl) (mm_le hRl rfl) rfl rfl (Nat.le_of_ble_eq_true rfl) dX2_item_28 hR hS hl.1 (fun r28 H locs hw hR hS => ?_)
      refine lv_goto (tgt := 37) hx hb dX2_item_31 (by decide) ?_
      exact hret _ _ _ _ _ _ ⟨rfl, hw⟩ hR hS dX2_item_37
def wM_shift_l125  (Q : Int32 → mS → Prop)  (x1 : Int32) (x2 : Int32) (x3 : Int32) (x4 : Int32) (x5 : Int32) (x6 : Int32) : Nat → mS → Int32 → Prop
  | 0, _, _ => False
  | n + 1, σ, x7 => ((x5 ≤ x7 → Q x5 σ) ∧ (¬ x5 ≤ x7 → ∀ y134_0 : Int32, y134_0 = (if x6 = 0 then x7 else ((x5 - 1) - x7)) → vp_in (((40 * x1) + x2) + y134_0) 160 ∧ (vp_in (((40 * x3) + x4) + y134_0) 160 ∧ (∀ σ179 : mS, σ179 = mpa σ 66 (((40 * x3) + x4) + y134_0).toNatClampNeg (mga σ 66 (((40 * x1) + x2) + y134_0).toNatClampNeg) → wM_shift_l125  Q  x1 x2 x3 x4 x5 x6 n σ179 (x7 + 1)))))
def wM_shift (σ : mS) (x1 : Int32) (x2 : Int32) (x3 : Int32) (x4 : Int32) (x5 : Int32) (Q : Int32 → mS → Prop) : Prop :=
  wM_isSheet x1 (fun r1 => ((r1 = 0 → Q ((-1) : Int32) σ) ∧ (¬ r1 = 0 → wM_isSheet x3 (fun r8 => ((r8 = 0 → Q ((-1) : Int32) σ) ∧ (¬ r8 = 0 → vp_in x1 4 ∧ ((((mga σ 64 x1.toNatClampNeg) < 0 → Q ((-11) : Int32) σ) ∧ (¬ (mga σ 64 x1.toNatClampNeg) < 0 → vp_in x3 4 ∧ (((0 ≤ (mga σ 64 x3.toNatClampNeg) → vp_in x1 4 ∧ (vp_in x3 4 ∧ ((((mga σ 64 x1.toNatClampNeg) = (mga σ 64 x3.toNatClampNeg) → ((x5 < 0 → Q ((-12) : Int32) σ) ∧ (¬ x5 < 0 → ((x2 < 0 → Q ((-12) : Int32) σ) ∧ (¬ x2 < 0 → ((x4 < 0 → Q ((-12) : Int32) σ) ∧ (¬ x4 < 0 → vp_in x1 4 ∧ (((((mga σ 65 x1.toNatClampNeg) - x2) < x5 → Q ((-12) : Int32) σ) ∧ (¬ ((mga σ 65 x1.toNatClampNeg) - x2) < x5 → vp_in x3 4 ∧ (((x5 ≤ ((mga σ 65 x3.toNatClampNeg) - x4) → ∀ y112_0 : Int32, y112_0 = (if ((40 * x3) + x4) ≤ ((40 * x1) + x2) then 0 else 1) → (∃ k125 : Nat, wM_shift_l125  Q  x1 x2 x3 x4 x5 y112_0 k125 σ (0 : Int32))) ∧ (¬ x5 ≤ ((mga σ 65 x3.toNatClampNeg) - x4) → Q ((-12) : Int32) σ))))))))))))) ∧ (¬ (mga σ 64 x1.toNatClampNeg) = (mga σ 64 x3.toNatClampNeg) → Q ((-13) : Int32) σ))))) ∧ (¬ 0 ≤ (mga σ 64 x3.toNatClampNeg) → Q ((-11) : Int32) σ))))))))))))
set_option maxHeartbeats 4000000 in
theorem mM_shift (l : Launch) (G : mG) (o : Nat) (ρ : Nat → Nat) (hap : mAp o ρ) (σ : mS) (x1 : Int32) (x2 : Int32) (x3 : Int32) (x4 : Int32) (x5 : Int32) (Q : Int32 → mS → Prop) (hw : wM_shift σ x1 x2 x3 x4 x5 Q) : mMetI l G yX2_shift (ws_ yX2_shift cX2_shift 9 (some .int)) 1 20 o ρ [.ref o, .int x1, .int x2, .int x3, .int x4, .int x5] σ Q := by
  refine mo_I plain2 rfl (Nat.le_of_ble_eq_true rfl) ?_
  intro p e s R m args below meth c QQ X hRf hRl hret
  obtain ⟨hx, hb, hml, hown, hts, hE⟩ := id X
  have hL125 : ∀ (x1 : Int32) (x2 : Int32) (x3 : Int32) (x4 : Int32) (x5 : Int32) (x6 : Int32) (n125 : Nat) (σ : mS) (x7 : Int32), wM_shift_l125  Q  x1 x2 x3 x4 x5 x6 n125 σ x7 → ∀ (H : Heap) (locs : List Loc) (ls : Array Slot), mR G o ρ σ H → va_S (mA o ρ) s.heap H locs → lv_has ls 9 [(0, .ref o), (1, .int x1), (2, .int x2), (3, .int x3), (4, .int x4), (5, .int x5), (6, .int x6), (7, .int x7)] → W p l e R s m args below meth c H locs 0 0 QQ (F0 m 125 ls []) := by
    intro x1 x2 x3 x4 x5 x6 n125
    induction n125 with
    | zero => intro σ x7 hw; exact hw.elim
    | succ n125 ih125 =>
      intro σ x7 hw H locs ls hR hS hl
      rw [wM_shift_l125] at hw
      refine lv_iload hx hb dX2_shift_125 (lv_at hl 7 rfl) ?_
      refine lv_iload hx hb dX2_shift_127 (lv_at hl 5 rfl) ?_
      refine lv_icmp_ge (tgt := 186) hx hb dX2_shift_129 (by decide) (fun c_129 => ?_) (fun c_129 => ?_)
      · have hw := hw.1 c_129
        refine lv_iload hx hb dX2_shift_186 (lv_at hl 5 rfl) ?_
        exact hret _ _ _ _ _ _ hw hR hS dX2_shift_188
      · have hw := hw.2 c_129
        refine lv_iload hx hb dX2_shift_132 (lv_at hl 6 rfl) ?_
        have hK134 : ∀ (y134_0 : Int32), y134_0 = (if x6 = 0 then x7 else ((x5 - 1) - x7)) → ∀ (ls : Array Slot), lv_has ls 9 [(0, .ref o), (1, .int x1), (2, .int x2), (3, .int x3), (4, .int x4), (5, .int x5), (6, .int x6), (7, .int x7)] → W p l e R s m args below meth c H locs 0 0 QQ (F0 m 149 ls [.int y134_0]) := by
          intro y134_0 e_y134_0 ls hl
          have hw := hw y134_0 e_y134_0
          refine lv_istore (lv' := [(8, .int y134_0), (0, .ref o), (1, .int x1), (2, .int x2), (3, .int x3), (4, .int x4), (5, .int x5), (6, .int x6), (7, .int x7)]) hx hb dX2_shift_149 hl (by decide) rfl (fun ls hl => ?_)
          refine lv_aload_n hx hb dX2_shift_151 rfl (lv_at hl 1 rfl) ?_
          refine mg_66 hx hb hts hown hE hR dX2_shift_152 ?_
          refine lv_bipush (v := 40) hx hb dX2_shift_155 (by decide) ?_
          refine lv_iload_n hx hb dX2_shift_157 rfl (lv_at hl 4 rfl) ?_
          refine lv_imul hx hb dX2_shift_158 ?_
          refine lv_iload hx hb dX2_shift_159 (lv_at hl 5 rfl) ?_
          refine lv_iadd hx hb dX2_shift_161 ?_
          refine lv_iload hx hb dX2_shift_162 (lv_at hl 0 rfl) ?_
          refine lv_iadd hx hb dX2_shift_164 ?_
          refine lv_aload_n hx hb dX2_shift_165 rfl (lv_at hl 1 rfl) ?_
          refine mg_66 hx hb hts hown hE hR dX2_shift_166 ?_
          refine lv_bipush (v := 40) hx hb dX2_shift_169 (by decide) ?_
          refine lv_iload_n hx hb dX2_shift_171 rfl (lv_at hl 2 rfl) ?_
          refine lv_imul hx hb dX2_shift_172 ?_
          refine lv_iload_n hx hb dX2_shift_173 rfl (lv_at hl 3 rfl) ?_
          refine lv_iadd hx hb dX2_shift_174 ?_
          refine lv_iload hx hb dX2_shift_175 (lv_at hl 0 rfl) ?_
          refine lv_iadd hx hb dX2_shift_177 ?_
          obtain ⟨hi_178, hw⟩ := hw
          refine ma_66 hx hb hE hR hi_178 dX2_shift_178 ?_
          obtain ⟨hi_179, hw⟩ := hw
          refine mst_66 hx hb hE hap hR hS hi_179 dX2_shift_179 (fun σ179 e_σ179 H locs hR hS => ?_)
          have hw := hw σ179 e_σ179
          clear e_σ179
          refine lv_iinc (k := 8) (lv' := [(7, .int (x7 + 1)), (8, .int y134_0), (0, .ref o), (1, .int x1), (2, .int x2), (3, .int x3), (4, .int x4), (5, .int x5), (6, .int x6)]) hx hb dX2_shift_180 hl rfl (congrArg (x7 + ·) (by decide : Int32.ofInt 1 = 1)) (by decide) rfl (fun ls hl => ?_)
          refine lv_goto (tgt := 125) hx hb dX2_shift_183 (by decide) ?_
          exact ih125 σ179 (x7 + 1) hw H locs ls hR hS (lv_sub hl [2, 3, 4, 5, 6, 7, 8, 0] rfl)
        refine lv_if_eq (tgt := 147) hx hb dX2_shift_134 (by decide) (fun c_134 => ?_) (fun c_134 => ?_)
        · refine lv_iload hx hb dX2_shift_147 (lv_at hl 7 rfl) ?_
          exact hK134 _ (if_pos c_134).symm ls (lv_sub hl [0, 1, 2, 3, 4, 5, 6, 7] rfl)
        · refine lv_iload hx hb dX2_shift_137 (lv_at hl 5 rfl) ?_
          refine lv_iconst (v := 1) hx hb dX2_shift_139 (by decide) ?_
          refine lv_isub hx hb dX2_shift_140 ?_
          refine lv_iload hx hb dX2_shift_141 (lv_at hl 7 rfl) ?_
          refine lv_isub hx hb dX2_shift_143 ?_
          refine lv_goto (tgt := 149) hx hb dX2_shift_144 (by decide) ?_
          exact hK134 _ (if_neg c_134).symm ls (lv_sub hl [0, 1, 2, 3, 4, 5, 6, 7] rfl)
  intro H ls hR hS hl
  have hl : lv_has ls 9 [(0, .ref o), (1, .int x1), (2, .int x2), (3, .int x3), (4, .int x4), (5, .int x5)] := hl
  generalize ([] : List Loc) = locs at hS ⊢
  unfold wM_shift at hw
  refine lv_iload_n hx hb dX2_shift_0 rfl (lv_at hl 1 rfl) ?_
  refine mc_si (As := [.int x1]) (rest := []) X (mM_isSheet l x1 _ hw) (lw_S q2539 q2540 q_ini2 q2541) hd2_isSheet (mm_le hRf rfl) (mm_le hRl rfl) rfl rfl (Nat.le_of_ble_eq_true rfl) dX2_shift_1 hR hS hl.1 (fun r1 H locs hw hR hS => ?_)
  refine lv_if_eq (tgt := 14) hx hb dX2_shift_4 (by decide) (fun c_4 => ?_) (fun c_4 => ?_)
  · have hw := hw.1 c_4
    refine lv_iconst (v := (-1)) hx hb dX2_shift_14 (by decide) ?_
    exact hret _ _ _ _ _ _ hw hR hS dX2_shift_15
  · have hw := hw.2 c_4
    refine lv_iload_n hx hb dX2_shift_7 rfl (lv_at hl 3 rfl) ?_
    refine mc_si (As := [.int x3]) (rest := []) X (mM_isSheet l x3 _ hw) (lw_S q2539 q2540 q_ini2 q2541) hd2_isSheet (mm_le hRf rfl) (mm_le hRl rfl) rfl rfl (Nat.le_of_ble_eq_true rfl) dX2_shift_8 hR hS hl.1 (fun r8 H locs hw hR hS => ?_)
    refine lv_if_ne (tgt := 16) hx hb dX2_shift_11 (by decide) (fun c_11 => ?_) (fun c_11 => ?_)
    · have hw := hw.2 c_11
      refine lv_aload_n hx hb dX2_shift_16 rfl (lv_at hl 0 rfl) ?_
      refine mg_64 hx hb hts hown hE hR dX2_shift_17 ?_
      refine lv_iload_n hx hb dX2_shift_20 rfl (lv_at hl 1 rfl) ?_
      obtain ⟨hi_21, hw⟩ := hw
      refine ma_64 hx hb hE hR hi_21 dX2_shift_21 ?_
      refine lv_if_lt (tgt := 34) hx hb dX2_shift_22 (by decide) (fun c_22 => ?_) (fun c_22 => ?_)
      · have hw := hw.1 c_22
        refine lv_bipush (v := (-11)) hx hb dX2_shift_34 (by decide) ?_
        exact hret _ _ _ _ _ _ hw hR hS dX2_shift_36
      · have hw := hw.2 c_22
        refine lv_aload_n hx hb dX2_shift_25 rfl (lv_at hl 0 rfl) ?_
        refine mg_64 hx hb hts hown hE hR dX2_shift_26 ?_
        refine lv_iload_n hx hb dX2_shift_29 rfl (lv_at hl 3 rfl) ?_
        obtain ⟨hi_30, hw⟩ := hw
        refine ma_64 hx hb hE hR hi_30 dX2_shift_30 ?_
        refine lv_if_ge (tgt := 37) hx hb dX2_shift_31 (by decide) (fun c_31 => ?_) (fun c_31 => ?_)
        · have hw := hw.1 c_31
          refine lv_aload_n hx hb dX2_shift_37 rfl (lv_at hl 0 rfl) ?_
          refine mg_64 hx hb hts hown hE hR dX2_shift_38 ?_
          refine lv_iload_n hx hb dX2_shift_41 rfl (lv_at hl 1 rfl) ?_
          obtain ⟨hi_42, hw⟩ := hw
          refine ma_64 hx hb hE hR hi_42 dX2_shift_42 ?_
          refine lv_aload_n hx hb dX2_shift_43 rfl (lv_at hl 0 rfl) ?_
          refine mg_64 hx hb hts hown hE hR dX2_shift_44 ?_
          refine lv_iload_n hx hb dX2_shift_47 rfl (lv_at hl 3 rfl) ?_
          obtain ⟨hi_48, hw⟩ := hw
          refine ma_64 hx hb hE hR hi_48 dX2_shift_48 ?_
          refine lv_icmp_eq (tgt := 55) hx hb dX2_shift_49 (by decide) (fun c_49 => ?_) (fun c_49 => ?_)
          · have hw := hw.1 c_49
            refine lv_iload hx hb dX2_shift_55 (lv_at hl 5 rfl) ?_
            refine lv_if_lt (tgt := 96) hx hb dX2_shift_57 (by decide) (fun c_57 => ?_) (fun c_57 => ?_)
            · have hw := hw.1 c_57
              refine lv_bipush (v := (-12)) hx hb dX2_shift_96 (by decide) ?_
              exact hret _ _ _ _ _ _ hw hR hS dX2_shift_98
            · have hw := hw.2 c_57
              refine lv_iload_n hx hb dX2_shift_60 rfl (lv_at hl 2 rfl) ?_
              refine lv_if_lt (tgt := 96) hx hb dX2_shift_61 (by decide) (fun c_61 => ?_) (fun c_61 => ?_)
              · have hw := hw.1 c_61
                refine lv_bipush (v := (-12)) hx hb dX2_shift_96 (by decide) ?_
                exact hret _ _ _ _ _ _ hw hR hS dX2_shift_98
              · have hw := hw.2 c_61
                refine lv_iload hx hb dX2_shift_64 (lv_at hl 4 rfl) ?_
                refine lv_if_lt (tgt := 96) hx hb dX2_shift_66 (by decide) (fun c_66 => ?_) (fun c_66 => ?_)
                · have hw := hw.1 c_66
                  refine lv_bipush (v := (-12)) hx hb dX2_shift_96 (by decide) ?_
                  exact hret _ _ _ _ _ _ hw hR hS dX2_shift_98
                · have hw := hw.2 c_66
                  refine lv_iload hx hb dX2_shift_69 (lv_at hl 5 rfl) ?_
                  refine lv_aload_n hx hb dX2_shift_71 rfl (lv_at hl 0 rfl) ?_
                  refine mg_65 hx hb hts hown hE hR dX2_shift_72 ?_
                  refine lv_iload_n hx hb dX2_shift_75 rfl (lv_at hl 1 rfl) ?_
                  obtain ⟨hi_76, hw⟩ := hw
                  refine ma_65 hx hb hE hR hi_76 dX2_shift_76 ?_
                  refine lv_iload_n hx hb dX2_shift_77 rfl (lv_at hl 2 rfl) ?_
                  refine lv_isub hx hb dX2_shift_78 ?_
                  refine lv_icmp_gt (tgt := 96) hx hb dX2_shift_79 (by decide) (fun c_79 => ?_) (fun c_79 => ?_)
                  · have hw := hw.1 c_79
                    refine lv_bipush (v := (-12)) hx hb dX2_shift_96 (by decide) ?_
                    exact hret _ _ _ _ _ _ hw hR hS dX2_shift_98
                  · have hw := hw.2 c_79
                    refine lv_iload hx hb dX2_shift_82 (lv_at hl 5 rfl) ?_
                    refine lv_aload_n hx hb dX2_shift_84 rfl (lv_at hl 0 rfl) ?_
                    refine mg_65 hx hb hts hown hE hR dX2_shift_85 ?_
                    refine lv_iload_n hx hb dX2_shift_88 rfl (lv_at hl 3 rfl) ?_
                    obtain ⟨hi_89, hw⟩ := hw
                    refine ma_65 hx hb hE hR hi_89 dX2_shift_89 ?_
                    refine lv_iload hx hb dX2_shift_90 (lv_at hl 4 rfl) ?_
                    refine lv_isub hx hb dX2_shift_92 ?_
                    refine lv_icmp_le (tgt := 99) hx hb dX2_shift_93 (by decide) (fun c_93 => ?_) (fun c_93 => ?_)
                    · have hw := hw.1 c_93
                      refine lv_bipush (v := 40) hx hb dX2_shift_99 (by decide) ?_
                      refine lv_iload_n hx hb dX2_shift_101 rfl (lv_at hl 1 rfl) ?_
                      refine lv_imul hx hb dX2_shift_102 ?_
                      refine lv_iload_n hx hb dX2_shift_103 rfl (lv_at hl 2 rfl) ?_
                      refine lv_iadd hx hb dX2_shift_104 ?_
                      refine lv_bipush (v := 40) hx hb dX2_shift_105 (by decide) ?_
                      refine lv_iload_n hx hb dX2_shift_107 rfl (lv_at hl 3 rfl) ?_
                      refine lv_imul hx hb dX2_shift_108 ?_
                      refine lv_iload hx hb dX2_shift_109 (lv_at hl 4 rfl) ?_
                      refine lv_iadd hx hb dX2_shift_111 ?_
                      have hK112 : ∀ (y112_0 : Int32), y112_0 = (if ((40 * x3) + x4) ≤ ((40 * x1) + x2) then 0 else 1) → ∀ (ls : Array Slot), lv_has ls 9 [(0, .ref o), (1, .int x1), (2, .int x2), (3, .int x3), (4, .int x4), (5, .int x5)] → W p l e R s m args below meth c H locs 0 0 QQ (F0 m 120 ls [.int y112_0]) := by
                        intro y112_0 e_y112_0 ls hl
                        have hw := hw y112_0 e_y112_0
                        refine lv_istore (lv' := [(6, .int y112_0), (0, .ref o), (1, .int x1), (2, .int x2), (3, .int x3), (4, .int x4), (5, .int x5)]) hx hb dX2_shift_120 hl (by decide) rfl (fun ls hl => ?_)
                        refine lv_iconst (v := 0) hx hb dX2_shift_122 (by decide) ?_
                        refine lv_istore (lv' := [(7, .int 0), (6, .int y112_0), (0, .ref o), (1, .int x1), (2, .int x2), (3, .int x3), (4, .int x4), (5, .int x5)]) hx hb dX2_shift_123 hl (by decide) rfl (fun ls hl => ?_)
                        obtain ⟨n125, hw⟩ := hw
                        exact hL125 x1 x2 x3 x4 x5 y112_0 n125 σ (0 : Int32) hw H locs ls hR hS (lv_sub hl [2, 3, 4, 5, 6, 7, 1, 0] rfl)
                      refine lv_icmp_ge (tgt := 119) hx hb dX2_shift_112 (by decide) (fun c_112 => ?_) (fun c_112 => ?_)
                      · refine lv_iconst (v := 0) hx hb dX2_shift_119 (by decide) ?_
                        exact hK112 _ (if_pos c_112).symm ls (lv_sub hl [0, 1, 2, 3, 4, 5] rfl)
                      · refine lv_iconst (v := 1) hx hb dX2_shift_115 (by decide) ?_
                        refine lv_goto (tgt := 120) hx hb dX2_shift_116 (by decide) ?_
                        exact hK112 _ (if_neg c_112).symm ls (lv_sub hl [0, 1, 2, 3, 4, 5] rfl)
                    · have hw := hw.2 c_93
                      refine lv_bipush (v := (-12)) hx hb dX2_shift_96 (by decide) ?_
                      exact hret _ _ _ _ _ _ hw hR hS dX2_shift_98
          · have hw := hw.2 c_49
            refine lv_bipush (v := (-13)) hx hb dX2_shift_52 (by decide) ?_
            exact hret _ _ _ _ _ _ hw hR hS dX2_shift_54
        · have hw := hw.2 c_31
          refine lv_bipush (v := (-11)) hx hb dX2_shift_34 (by decide) ?_
          exact hret _ _ _ _ _ _ hw hR hS dX2_shift_36
    · have hw := hw.1 c_11
      refine lv_iconst (v := (-1)) hx hb dX2_shift_14 (by decide) ?_
      exact hret _ _ _ _ _ _ hw hR hS dX2_shift_15
def wM_count_l57  (Q : Int32 → Prop) (σ : mS)  : Nat → Int32 → Int32 → Prop
  | 0, _, _ => False
  | n + 1, x2, x3 => (((5 : Int32) ≤ x3 → Q x2) ∧ (¬ (5 : Int32) ≤ x3 → wM_degreeOf σ x3 (fun r65 => ∀ y68_0 : Int32, y68_0 = (if r65 < 0 then 0 else ((1 : Int32) <<< (x3 &&& 31))) → wM_count_l57  Q σ  n (x2 ||| y68_0) (x3 + 1))))
def wM_count_l90  (Q : Int32 → Prop) (σ : mS)  : Nat → Int32 → Int32 → Prop
  | 0, _, _ => False
  | n + 1, x2, x3 => (((4 : Int32) ≤ x3 → Q x2) ∧ (¬ (4 : Int32) ≤ x3 → vp_in x3 4 ∧ (∀ y102_0 : Int32, y102_0 = (if (mga σ 64 x3.toNatClampNeg) < 0 then 0 else 1) → wM_count_l90  Q σ  n (x2 + y102_0) (x3 + 1))))
def wM_count (σ : mS) (x1 : Int32) (Q : Int32 → Prop) : Prop :=
  ((x1 = 0 → Q (mgi σ 0)) ∧ (x1 = 1 → Q (mgi σ 1)) ∧ (x1 = 2 → Q (mgi σ 5)) ∧ (x1 = 3 → (∃ k57 : Nat, wM_count_l57  Q σ  k57 (0 : Int32) (0 : Int32))) ∧ (x1 = 4 → (∃ k90 : Nat, wM_count_l90  Q σ  k90 (0 : Int32) (0 : Int32))) ∧ (x1 = 5 → ∀ y124_0 : Int32, y124_0 = (if (mgi σ 18) = 0 then 0 else 1) → Q y124_0) ∧ (¬ x1 = 0 → ¬ x1 = 1 → ¬ x1 = 2 → ¬ x1 = 3 → ¬ x1 = 4 → ¬ x1 = 5 → Q ((-1) : Int32)))
set_option maxHeartbeats 4000000 in
theorem mM_count (l : Launch) (G : mG) (o : Nat) (ρ : Nat → Nat) (hap : mAp o ρ) (σ : mS) (x1 : Int32) (Q : Int32 → Prop) (hw : wM_count σ x1 Q) : mMetI l G yX2_count (ws_ yX2_count cX2_count 4 (some .int)) 2 45 o ρ [.ref o, .int x1] σ (fun r τ => σ = τ ∧ Q r) := by
  refine mo_I plain2 rfl (Nat.le_of_ble_eq_true rfl) ?_
  intro p e s R m args below meth c QQ X hRf hRl hret
  obtain ⟨hx, hb, hml, hown, hts, hE⟩ := id X
  have hL57 : ∀ (n57 : Nat) (x2 : Int32) (x3 : Int32), wM_count_l57  Q σ  n57 x2 x3 → ∀ (H : Heap) (locs : List Loc) (ls : Array Slot), mR G o ρ σ H → va_S (mA o ρ) s.heap H locs → lv_has ls 4 [(0, .ref o), (2, .int x2), (3, .int x3)] → W p l e R s m args below meth c H locs 0 0 QQ (F0 m 57 ls []) := by
    intro  n57
    induction n57 with
    | zero => intro x2 x3 hw; exact hw.elim
    | succ n57 ih57 =>
      intro x2 x3 hw H locs ls hR hS hl
      rw [wM_count_l57] at hw
      refine lv_iload_n hx hb dX2_count_57 rfl (lv_at hl 2 rfl) ?_
      refine lv_iconst (v := 5) hx hb dX2_count_58 (by decide) ?_
      refine lv_icmp_ge (tgt := 86) hx hb dX2_count_59 (by decide) (fun c_59 => ?_) (fun c_59 => ?_)
      · have hw := hw.1 c_59
        refine lv_iload_n hx hb dX2_count_86 rfl (lv_at hl 1 rfl) ?_
        exact hret _ _ _ _ _ _ ⟨rfl, hw⟩ hR hS dX2_count_87
      · have hw := hw.2 c_59
        refine lv_iload_n hx hb dX2_count_62 rfl (lv_at hl 1 rfl) ?_
        refine lv_aload_n hx hb dX2_count_63 rfl (lv_at hl 0 rfl) ?_
        refine lv_iload_n hx hb dX2_count_64 rfl (lv_at hl 2 rfl) ?_
        refine mc_vir (As := [.int x3]) (rest := [.int x2]) X (mM_degreeOf l G o ρ hap σ x3 _ hw) (lw_V q2249 q2251 qs53 q_ini2 q2252) hd2_degreeOf (mm_le hRf rfl) (mm_le hRl rfl) rfl rfl (Nat.le_of_ble_eq_true rfl) dX2_count_65 hR hS hl.1 (fun r65 H locs hw hR hS => ?_)
        have hK68 : ∀ (y68_0 : Int32), y68_0 = (if r65 < 0 then 0 else ((1 : Int32) <<< (x3 &&& 31))) → ∀ (ls : Array Slot), lv_has ls 4 [(0, .ref o), (3, .int x3)] → W p l e R s m args below meth c H locs 0 0 QQ (F0 m 78 ls [.int y68_0, .int x2]) := by
          intro y68_0 e_y68_0 ls hl
          have hw := hw y68_0 e_y68_0
          refine lv_ior hx hb dX2_count_78 ?_
          refine lv_istore_n (lv' := [(2, .int (x2 ||| y68_0)), (0, .ref o), (3, .int x3)]) hx hb dX2_count_79 rfl hl (by decide) rfl (fun ls hl => ?_)
          refine lv_iinc (k := 2) (lv' := [(3, .int (x3 + 1)), (2, .int (x2 ||| y68_0)), (0, .ref o)]) hx hb dX2_count_80 hl rfl (congrArg (x3 + ·) (by decide : Int32.ofInt 1 = 1)) (by decide) rfl (fun ls hl => ?_)
          refine lv_goto (tgt := 57) hx hb dX2_count_83 (by decide) ?_
          exact ih57 (x2 ||| y68_0) (x3 + 1) hw H locs ls hR hS (lv_sub hl [2, 1, 0] rfl)
        refine lv_if_lt (tgt := 77) hx hb dX2_count_68 (by decide) (fun c_68 => ?_) (fun c_68 => ?_)
        · refine lv_iconst (v := 0) hx hb dX2_count_77 (by decide) ?_
          exact hK68 _ (if_pos c_68).symm ls (lv_sub hl [0, 2] rfl)
        · refine lv_iconst (v := 1) hx hb dX2_count_71 (by decide) ?_
          refine lv_iload_n hx hb dX2_count_72 rfl (lv_at hl 2 rfl) ?_
          refine lv_ishl hx hb dX2_count_73 ?_
          refine lv_goto (tgt := 78) hx hb dX2_count_74 (by decide) ?_
          exact hK68 _ (if_neg c_68).symm ls (lv_sub hl [0, 2] rfl)
  have hL90 : ∀ (n90 : Nat) (x2 : Int32) (x3 : Int32), wM_count_l90  Q σ  n90 x2 x3 → ∀ (H : Heap) (locs : List Loc) (ls : Array Slot), mR G o ρ σ H → va_S (mA o ρ) s.heap H locs → lv_has ls 4 [(0, .ref o), (2, .int x2), (3, .int x3)] → W p l e R s m args below meth c H locs 0 0 QQ (F0 m 90 ls []) := by
    intro  n90
    induction n90 with
    | zero => intro x2 x3 hw; exact hw.elim
    | succ n90 ih90 =>
      intro x2 x3 hw H locs ls hR hS hl
      rw [wM_count_l90] at hw
      refine lv_iload_n hx hb dX2_count_90 rfl (lv_at hl 2 rfl) ?_
      refine lv_iconst (v := 4) hx hb dX2_count_91 (by decide) ?_
      refine lv_icmp_ge (tgt := 118) hx hb dX2_count_92 (by decide) (fun c_92 => ?_) (fun c_92 => ?_)
      · have hw := hw.1 c_92
        refine lv_iload_n hx hb dX2_count_118 rfl (lv_at hl 1 rfl) ?_
        exact hret _ _ _ _ _ _ ⟨rfl, hw⟩ hR hS dX2_count_119
      · have hw := hw.2 c_92
        refine lv_iload_n hx hb dX2_count_95 rfl (lv_at hl 1 rfl) ?_
        refine lv_aload_n hx hb dX2_count_96 rfl (lv_at hl 0 rfl) ?_
        refine mg_64 hx hb hts hown hE hR dX2_count_97 ?_
        refine lv_iload_n hx hb dX2_count_100 rfl (lv_at hl 2 rfl) ?_
        obtain ⟨hi_101, hw⟩ := hw
        refine ma_64 hx hb hE hR hi_101 dX2_count_101 ?_
        have hK102 : ∀ (y102_0 : Int32), y102_0 = (if (mga σ 64 x3.toNatClampNeg) < 0 then 0 else 1) → ∀ (ls : Array Slot), lv_has ls 4 [(0, .ref o), (3, .int x3)] → W p l e R s m args below meth c H locs 0 0 QQ (F0 m 110 ls [.int y102_0, .int x2]) := by
          intro y102_0 e_y102_0 ls hl
          have hw := hw y102_0 e_y102_0
          refine lv_iadd hx hb dX2_count_110 ?_
          refine lv_istore_n (lv' := [(2, .int (x2 + y102_0)), (0, .ref o), (3, .int x3)]) hx hb dX2_count_111 rfl hl (by decide) rfl (fun ls hl => ?_)
          refine lv_iinc (k := 2) (lv' := [(3, .int (x3 + 1)), (2, .int (x2 + y102_0)), (0, .ref o)]) hx hb dX2_count_112 hl rfl (congrArg (x3 + ·) (by decide : Int32.ofInt 1 = 1)) (by decide) rfl (fun ls hl => ?_)
          refine lv_goto (tgt := 90) hx hb dX2_count_115 (by decide) ?_
          exact ih90 (x2 + y102_0) (x3 + 1) hw H locs ls hR hS (lv_sub hl [2, 1, 0] rfl)
        refine lv_if_lt (tgt := 109) hx hb dX2_count_102 (by decide) (fun c_102 => ?_) (fun c_102 => ?_)
        · refine lv_iconst (v := 0) hx hb dX2_count_109 (by decide) ?_
          exact hK102 _ (if_pos c_102).symm ls (lv_sub hl [0, 2] rfl)
        · refine lv_iconst (v := 1) hx hb dX2_count_105 (by decide) ?_
          refine lv_goto (tgt := 110) hx hb dX2_count_106 (by decide) ?_
          exact hK102 _ (if_neg c_102).symm ls (lv_sub hl [0, 2] rfl)
  intro H ls hR hS hl
  have hl : lv_has ls 4 [(0, .ref o), (1, .int x1)] := hl
  generalize ([] : List Loc) = locs at hS ⊢
  unfold wM_count at hw
  refine lv_iconst (v := 0) hx hb dX2_count_0 (by decide) ?_
  refine lv_istore_n (lv' := [(2, .int 0), (0, .ref o), (1, .int x1)]) hx hb dX2_count_1 rfl hl (by decide) rfl (fun ls hl => ?_)
  refine lv_iload_n hx hb dX2_count_2 rfl (lv_at hl 2 rfl) ?_
  by_cases c_3_0 : x1 = 0
  · have hw := hw.1 c_3_0
    refine lv_tableIn (off := 37) (tgt := 40) hx hb dX2_count_3 (by rw [c_3_0]; decide) (by rw [c_3_0]; decide) (by rw [c_3_0]; rfl) (by decide) ?_
    refine lv_aload_n hx hb dX2_count_40 rfl (lv_at hl 1 rfl) ?_
    refine mg_0 hx hb hts hown hE hR dX2_count_41 ?_
    exact hret _ _ _ _ _ _ ⟨rfl, hw⟩ hR hS dX2_count_44
  by_cases c_3_1 : x1 = 1
  · have hw := hw.2.1 c_3_1
    refine lv_tableIn (off := 42) (tgt := 45) hx hb dX2_count_3 (by rw [c_3_1]; decide) (by rw [c_3_1]; decide) (by rw [c_3_1]; rfl) (by decide) ?_
    refine lv_aload_n hx hb dX2_count_45 rfl (lv_at hl 1 rfl) ?_
    refine mg_1 hx hb hts hown hE hR dX2_count_46 ?_
    exact hret _ _ _ _ _ _ ⟨rfl, hw⟩ hR hS dX2_count_49
  by_cases c_3_2 : x1 = 2
  · have hw := hw.2.2.1 c_3_2
    refine lv_tableIn (off := 47) (tgt := 50) hx hb dX2_count_3 (by rw [c_3_2]; decide) (by rw [c_3_2]; decide) (by rw [c_3_2]; rfl) (by decide) ?_
    refine lv_aload_n hx hb dX2_count_50 rfl (lv_at hl 1 rfl) ?_
    refine mg_5 hx hb hts hown hE hR dX2_count_51 ?_
    exact hret _ _ _ _ _ _ ⟨rfl, hw⟩ hR hS dX2_count_54
  by_cases c_3_3 : x1 = 3
  · have hw := hw.2.2.2.1 c_3_3
    refine lv_tableIn (off := 52) (tgt := 55) hx hb dX2_count_3 (by rw [c_3_3]; decide) (by rw [c_3_3]; decide) (by rw [c_3_3]; rfl) (by decide) ?_
    refine lv_iconst (v := 0) hx hb dX2_count_55 (by decide) ?_
    refine lv_istore_n (lv' := [(3, .int 0), (2, .int 0), (0, .ref o), (1, .int x1)]) hx hb dX2_count_56 rfl hl (by decide) rfl (fun ls hl => ?_)
    obtain ⟨n57, hw⟩ := hw
    exact hL57  n57 (0 : Int32) (0 : Int32) hw H locs ls hR hS (lv_sub hl [2, 1, 0] rfl)
  by_cases c_3_4 : x1 = 4
  · have hw := hw.2.2.2.2.1 c_3_4
    refine lv_tableIn (off := 85) (tgt := 88) hx hb dX2_count_3 (by rw [c_3_4]; decide) (by rw [c_3_4]; decide) (by rw [c_3_4]; rfl) (by decide) ?_
    refine lv_iconst (v := 0) hx hb dX2_count_88 (by decide) ?_
    refine lv_istore_n (lv' := [(3, .int 0), (2, .int 0), (0, .ref o), (1, .int x1)]) hx hb dX2_count_89 rfl hl (by decide) rfl (fun ls hl => ?_)
    obtain ⟨n90, hw⟩ := hw
    exact hL90  n90 (0 : Int32) (0 : Int32) hw H locs ls hR hS (lv_sub hl [2, 1, 0] rfl)
  by_cases c_3_5 : x1 = 5
  · have hw := hw.2.2.2.2.2.1 c_3_5
    refine lv_tableIn (off := 117) (tgt := 120) hx hb dX2_count_3 (by rw [c_3_5]; decide) (by rw [c_3_5]; decide) (by rw [c_3_5]; rfl) (by decide) ?_
    refine lv_aload_n hx hb dX2_count_120 rfl (lv_at hl 1 rfl) ?_
    refine mg_18 hx hb hts hown hE hR dX2_count_121 ?_
    have hK124 : ∀ (y124_0 : Int32), y124_0 = (if (mgi σ 18) = 0 then 0 else 1) → ∀ (ls : Array Slot), lv_has ls 4 [] → W p l e R s m args below meth c H locs 0 0 QQ (F0 m 132 ls [.int y124_0]) := by
      intro y124_0 e_y124_0 ls hl
      have hw := hw y124_0 e_y124_0
      exact hret _ _ _ _ _ _ ⟨rfl, hw⟩ hR hS dX2_count_132
    refine lv_if_eq (tgt := 131) hx hb dX2_count_124 (by decide) (fun c_124 => ?_) (fun c_124 => ?_)
    · refine lv_iconst (v := 0) hx hb dX2_count_131 (by decide) ?_
      exact hK124 _ (if_pos c_124).symm ls (lv_sub hl [] rfl)
    · refine lv_iconst (v := 1) hx hb dX2_count_127 (by decide) ?_
      refine lv_goto (tgt := 132) hx hb dX2_count_128 (by decide) ?_
      exact hK124 _ (if_neg c_124).symm ls (lv_sub hl [] rfl)
  have hw := hw.2.2.2.2.2.2 c_3_0 c_3_1 c_3_2 c_3_3 c_3_4 c_3_5
  have t_c_3_0 := lv_neT (a := 0) c_3_0 (by decide)
  have t_c_3_1 := lv_neT (a := 1) c_3_1 (by decide)
  have t_c_3_2 := lv_neT (a := 2) c_3_2 (by decide)
  have t_c_3_3 := lv_neT (a := 3) c_3_3 (by decide)
  have t_c_3_4 := lv_neT (a := 4) c_3_4 (by decide)
  have t_c_3_5 := lv_neT (a := 5) c_3_5 (by decide)
  refine lv_tableOut (tgt := 133) hx hb dX2_count_3 (by omega) (by decide) ?_
  refine lv_iconst (v := (-1)) hx hb dX2_count_133 (by decide) ?_
  exact hret _ _ _ _ _ _ ⟨rfl, hw⟩ hR hS dX2_count_134
