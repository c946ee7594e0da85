/-! the model's methods: predicates and walks, printed (part 2) -/
set_option maxRecDepth 100000
def wM_addsFactor_l22  (Q : mS → Prop)   : Nat → mS → Int32 → Prop
  | 0, _, _ => False
  | n + 1, σ, x3 => (((9 : Int32) ≤ x3 → ∀ σ61 : mS, σ61 = mpi σ 12 ((mgi σ 12) + 1) → Q σ61) ∧ (¬ (9 : Int32) ≤ x3 → vp_in x3 9 ∧ (vp_in ((9 * (mgi σ 12)) + x3) 81 ∧ (∀ σ47 : mS, σ47 = mpa σ 15 ((9 * (mgi σ 12)) + x3).toNatClampNeg (mga σ 16 x3.toNatClampNeg) → wM_addsFactor_l22  Q   n σ47 (x3 + 1)))))
def wM_addsFactor (σ : mS) (x1 : Int32) (x2 : Int32) (Q : mS → Prop) : Prop :=
  vp_in (mgi σ 12) 9 ∧ (∀ σ9 : mS, σ9 = mpa σ 13 (mgi σ 12).toNatClampNeg x1 → vp_in (mgi σ9 12) 9 ∧ (∀ σ19 : mS, σ19 = mpa σ9 14 (mgi σ9 12).toNatClampNeg x2 → (∃ k22 : Nat, wM_addsFactor_l22  Q   k22 σ19 (0 : Int32))))
set_option maxHeartbeats 4000000 in
theorem mM_addsFactor (l : Launch) (G : mG) (o : Nat) (ρ : Nat → Nat) (hap : mAp o ρ) (σ : mS) (x1 : Int32) (x2 : Int32) (Q : mS → Prop) (hw : wM_addsFactor σ x1 x2 Q) : mMetV l G yX2_addsFactor (ws_ yX2_addsFactor cX2_addsFactor 4 none) 0 0 o ρ [.ref o, .int x1, .int x2] σ Q := by
  refine mo_V plain2 rfl (Nat.le_of_ble_eq_true rfl) ?_
  intro p e s R m args below meth c QQ X hRf hRl hret
  obtain ⟨hx, hb, hml, hown, hts, hE⟩ := id X
  have hL22 : ∀ (n22 : Nat) (σ : mS) (x3 : Int32), wM_addsFactor_l22  Q   n22 σ x3 → ∀ (H : Heap) (locs : List Loc) (ls : Array Slot), mR G o ρ σ H → va_S (mA o ρ) s.heap H locs → lv_has ls 4 [(0, .ref o), (3, .int x3)] → W p l e R s m args below meth c H locs 0 0 QQ (F0 m 22 ls []) := by
    intro  n22
    induction n22 with
    | zero => intro σ x3 hw; exact hw.elim
    | succ n22 ih22 =>
      intro σ x3 hw H locs ls hR hS hl
      rw [wM_addsFactor_l22] at hw
      refine lv_iload_n hx hb dX2_addsFactor_22 rfl (lv_at hl 1 rfl) ?_
      refine lv_bipush (v := 9) hx hb dX2_addsFactor_23 (by decide) ?_
      refine lv_icmp_ge (tgt := 54) hx hb dX2_addsFactor_25 (by decide) (fun c_25 => ?_) (fun c_25 => ?_)
      · have hw := hw.1 c_25
        refine lv_aload_n hx hb dX2_addsFactor_54 rfl (lv_at hl 0 rfl) ?_
        refine lv_dup hx hb dX2_addsFactor_55 rfl ?_
        refine mg_12 hx hb hts hown hE hR dX2_addsFactor_56 ?_
        refine lv_iconst (v := 1) hx hb dX2_addsFactor_59 (by decide) ?_
        refine lv_iadd hx hb dX2_addsFactor_60 ?_
        refine mp_12 hx hb hts hown hE hap hR hS dX2_addsFactor_61 (fun σ61 e_σ61 H locs hR hS => ?_)
        have hw := hw σ61 e_σ61
        clear e_σ61
        exact hret _ _ _ _ _ hw hR hS dX2_addsFactor_64
      · have hw := hw.2 c_25
        refine lv_aload_n hx hb dX2_addsFactor_28 rfl (lv_at hl 0 rfl) ?_
        refine mg_15 hx hb hts hown hE hR dX2_addsFactor_29 ?_
        refine lv_bipush (v := 9) hx hb dX2_addsFactor_32 (by decide) ?_
        refine lv_aload_n hx hb dX2_addsFactor_34 rfl (lv_at hl 0 rfl) ?_
        refine mg_12 hx hb hts hown hE hR dX2_addsFactor_35 ?_
        refine lv_imul hx hb dX2_addsFactor_38 ?_
        refine lv_iload_n hx hb dX2_addsFactor_39 rfl (lv_at hl 1 rfl) ?_
        refine lv_iadd hx hb dX2_addsFactor_40 ?_
        refine lv_aload_n hx hb dX2_addsFactor_41 rfl (lv_at hl 0 rfl) ?_
        refine mg_16 hx hb hts hown hE hR dX2_addsFactor_42 ?_
        refine lv_iload_n hx hb dX2_addsFactor_45 rfl (lv_at hl 1 rfl) ?_
        obtain ⟨hi_46, hw⟩ := hw
        refine ma_16 hx hb hE hR hi_46 dX2_addsFactor_46 ?_
        obtain ⟨hi_47, hw⟩ := hw
        refine mst_15 hx hb hE hap hR hS hi_47 dX2_addsFactor_47 (fun σ47 e_σ47 H locs hR hS => ?_)
        have hw := hw σ47 e_σ47
        clear e_σ47
        refine lv_iinc (k := 1) (lv' := [(3, .int (x3 + 1)), (0, .ref o)]) hx hb dX2_addsFactor_48 hl rfl (congrArg (x3 + ·) (by decide : Int32.ofInt 1 = 1)) (by decide) rfl (fun ls hl => ?_)
        refine lv_goto (tgt := 22) hx hb dX2_addsFactor_51 (by decide) ?_
        exact ih22 σ47 (x3 + 1) hw H locs ls hR hS (lv_sub hl [1, 0] rfl)
  intro H ls hR hS hl
  have hl : lv_has ls 4 [(0, .ref o), (1, .int x1), (2, .int x2)] := hl
  generalize ([] : List Loc) = locs at hS ⊢
  unfold wM_addsFactor at hw
  refine lv_aload_n hx hb dX2_addsFactor_0 rfl (lv_at hl 0 rfl) ?_
  refine mg_13 hx hb hts hown hE hR dX2_addsFactor_1 ?_
  refine lv_aload_n hx hb dX2_addsFactor_4 rfl (lv_at hl 0 rfl) ?_
  refine mg_12 hx hb hts hown hE hR dX2_addsFactor_5 ?_
  refine lv_iload_n hx hb dX2_addsFactor_8 rfl (lv_at hl 1 rfl) ?_
  obtain ⟨hi_9, hw⟩ := hw
  refine mst_13 hx hb hE hap hR hS hi_9 dX2_addsFactor_9 (fun σ9 e_σ9 H locs hR hS => ?_)
  have hw := hw σ9 e_σ9
  clear e_σ9
  refine lv_aload_n hx hb dX2_addsFactor_10 rfl (lv_at hl 0 rfl) ?_
  refine mg_14 hx hb hts hown hE hR dX2_addsFactor_11 ?_
  refine lv_aload_n hx hb dX2_addsFactor_14 rfl (lv_at hl 0 rfl) ?_
  refine mg_12 hx hb hts hown hE hR dX2_addsFactor_15 ?_
  refine lv_iload_n hx hb dX2_addsFactor_18 rfl (lv_at hl 2 rfl) ?_
  obtain ⟨hi_19, hw⟩ := hw
  refine mst_14 hx hb hE hap hR hS hi_19 dX2_addsFactor_19 (fun σ19 e_σ19 H locs hR hS => ?_)
  have hw := hw σ19 e_σ19
  clear e_σ19
  refine lv_iconst (v := 0) hx hb dX2_addsFactor_20 (by decide) ?_
  refine lv_istore_n (lv' := [(3, .int 0), (0, .ref o), (1, .int x1), (2, .int x2)]) hx hb dX2_addsFactor_21 rfl hl (by decide) rfl (fun ls hl => ?_)
  obtain ⟨n22, hw⟩ := hw
  exact hL22  n22 σ19 (0 : Int32) hw H locs ls hR hS (lv_sub hl [1, 0] rfl)
def wM_takesApart_l161  (Q : mS → Prop)   : Nat → mS → Int32 → Prop
  | 0, _, _ => False
  | n + 1, σ, x3 => (((9 : Int32) ≤ x3 → wM_addsFactor σ (mgi σ 11) (1 : Int32) (fun σ203 => Q σ203)) ∧ (¬ (9 : Int32) ≤ x3 → (((mgi σ 11) < x3 → True) ∧ (¬ (mgi σ 11) < x3 → (vp_in x3 9 ∧ True))) ∧ (∀ y177_0 : Int32, y177_0 = (if (mgi σ 11) < x3 then 0 else (mga σ 10 x3.toNatClampNeg)) → vp_in x3 9 ∧ (∀ σ190 : mS, σ190 = mpa σ 16 x3.toNatClampNeg y177_0 → wM_takesApart_l161  Q   n σ190 (x3 + 1)))))
def wM_takesApart_j128 (rec82 : mS → Int32 → Prop) (rec62 : mS → Int32 → Int32 → Prop) (Q : mS → Prop) (σ : mS) (x2 : Int32) (x3 : Int32) (x4 : Int32) (x5 : Int32)  : Prop :=
  ((x5 ≤ 0 → rec82 σ (x4 + 1)) ∧ (¬ x5 ≤ 0 → wM_addsFactor σ x3 x5 (fun σ137 => rec82 σ137 (x4 + 1))))
def wM_takesApart_l106 (rec82 : mS → Int32 → Prop) (rec62 : mS → Int32 → Int32 → Prop) (Q : mS → Prop)  (x2 : Int32) (x3 : Int32) (x4 : Int32) : Nat → mS → Int32 → Prop
  | 0, _, _ => False
  | n + 1, σ, x5 => (((mgi σ 11) < x3 → (wM_takesApart_j128 rec82 rec62 Q σ x2 x3 x4 x5)) ∧ (¬ (mgi σ 11) < x3 → wM_divides σ x3 (fun r116 σ116 => ((r116 = 0 → (wM_takesApart_j128 rec82 rec62 Q σ116 x2 x3 x4 x5)) ∧ (¬ r116 = 0 → wM_takesApart_l106 rec82 rec62 Q  x2 x3 x4 n σ116 (x5 + 1))))))
def wM_takesApart_l82 (rec62 : mS → Int32 → Int32 → Prop) (Q : mS → Prop)  (x2 : Int32) (x3 : Int32) : Nat → mS → Int32 → Prop
  | 0, _, _ => False
  | n + 1, σ, x4 => ((x2 ≤ x4 → rec62 σ x2 (x3 + 1)) ∧ (¬ x2 ≤ x4 → (((mgi σ 11) < x3 → rec62 σ x2 (x3 + 1)) ∧ (¬ (mgi σ 11) < x3 → wM_laysTrial σ x4 x3 (fun σ100 => (∃ k106 : Nat, wM_takesApart_l106 (fun z z4 => wM_takesApart_l82 rec62 Q  x2 x3 n z z4) rec62 Q  x2 x3 x4 k106 σ100 (0 : Int32)))))))
def wM_takesApart_l62  (Q : mS → Prop)   : Nat → mS → Int32 → Int32 → Prop
  | 0, _, _, _ => False
  | n + 1, σ, x2, x3 => (((mgi σ 11) < (2 * x3) → (((mgi σ 11) ≤ 0 → Q σ) ∧ (¬ (mgi σ 11) ≤ 0 → (∃ k161 : Nat, wM_takesApart_l161  Q   k161 σ (0 : Int32))))) ∧ (¬ (mgi σ 11) < (2 * x3) → (∃ k82 : Nat, wM_takesApart_l82 (fun z z2 z3 => wM_takesApart_l62  Q   n z z2 z3) Q  (x2 * (mgi σ 0)) x3 k82 σ (0 : Int32))))
def wM_takesApart_l25  (Q : mS → Prop)  (x1 : Int32) : Nat → mS → Int32 → Prop
  | 0, _, _ => False
  | n + 1, σ, x2 => (((mgi σ 11) < x2 → (∃ k62 : Nat, wM_takesApart_l62  Q   k62 σ (1 : Int32) (1 : Int32))) ∧ (¬ (mgi σ 11) < x2 → vp_in x2 9 ∧ (¬ (mgi σ 0) = 0 ∧ (vp_in x2 9 ∧ (∀ σ51 : mS, σ51 = mpa σ 10 x2.toNatClampNeg (((mga σ 10 x2.toNatClampNeg) * x1) - ((mga σ 10 x2.toNatClampNeg) * x1) / (mgi σ 0) * (mgi σ 0)) → wM_takesApart_l25  Q  x1 n σ51 (x2 + 1))))))
def wM_takesApart (σ : mS)  (Q : mS → Prop) : Prop :=
  ∀ σ2 : mS, σ2 = mpi σ 12 0 → wM_measures σ2  (fun σ6 => vp_in (mgi σ6 11) 9 ∧ (wM_inverse σ6 (mga σ6 10 (mgi σ6 11).toNatClampNeg) (fun r19 => (∃ k25 : Nat, wM_takesApart_l25  Q  r19 k25 σ6 (0 : Int32)))))
set_option maxHeartbeats 4000000 in
theorem mM_takesApart (l : Launch) (G : mG) (o : Nat) (ρ : Nat → Nat) (hap : mAp o ρ) (σ : mS)  (Q : mS → Prop) (hw : wM_takesApart σ  Q) : mMetV l G yX2_takesApart (ws_ yX2_takesApart cX2_takesApart 6 none) 2 46 o ρ [.ref o] σ Q := by
  refine mo_V plain2 rfl (Nat.le_of_ble_eq_true rfl) ?_
  intro p e s R m args below meth c QQ X hRf hRl hret
  obtain ⟨hx, hb, hml, hown, hts, hE⟩ := id X
  have hL161 : ∀ (n161 : Nat) (σ : mS) (x3 : Int32), wM_takesApart_l161  Q   n161 σ x3 → ∀ (H : Heap) (locs : List Loc) (ls : Array Slot), mR G o ρ σ H → va_S (mA o ρ) s.heap H locs → lv_has ls 6 [(0, .ref o), (3, .int x3)] → W p l e R s m args below meth c H locs 0 0 QQ (F0 m 161 ls []) := by
    intro  n161
    induction n161 with
    | zero => intro σ x3 hw; exact hw.elim
    | succ n161 ih161 =>
      intro σ x3 hw H locs ls hR hS hl
      rw [wM_takesApart_l161] at hw
      refine lv_iload_n hx hb dX2_takesApart_161 rfl (lv_at hl 1 rfl) ?_
      refine lv_bipush (v := 9) hx hb dX2_takesApart_162 (by decide) ?_
      refine lv_icmp_ge (tgt := 197) hx hb dX2_takesApart_164 (by decide) (fun c_164 => ?_) (fun c_164 => ?_)
      · have hw := hw.1 c_164
        refine lv_aload_n hx hb dX2_takesApart_197 rfl (lv_at hl 0 rfl) ?_
        refine lv_aload_n hx hb dX2_takesApart_198 rfl (lv_at hl 0 rfl) ?_
        refine mg_11 hx hb hts hown hE hR dX2_takesApart_199 ?_
        refine lv_iconst (v := 1) hx hb dX2_takesApart_202 (by decide) ?_
        refine mc_vv (As := [.int (mgi σ 11), .int (1 : Int32)]) (rest := []) X (mM_addsFactor l G o ρ hap σ (mgi σ 11) (1 : Int32) _ hw) (lw_V q2339 q2341 qs65 q_ini2 q2342) hd2_addsFactor (mm_le hRf rfl) (mm_le hRl rfl) rfl rfl (Nat.le_of_ble_eq_true rfl) dX2_takesApart_203 hR hS hl.1 (fun σ203 H locs hw hR hS => ?_)
        exact hret _ _ _ _ _ hw hR hS dX2_takesApart_206
      · have hw := hw.2 c_164
        refine lv_aload_n hx hb dX2_takesApart_167 rfl (lv_at hl 0 rfl) ?_
        refine mg_16 hx hb hts hown hE hR dX2_takesApart_168 ?_
        refine lv_iload_n hx hb dX2_takesApart_171 rfl (lv_at hl 1 rfl) ?_
        refine lv_iload_n hx hb dX2_takesApart_172 rfl (lv_at hl 1 rfl) ?_
        refine lv_aload_n hx hb dX2_takesApart_173 rfl (lv_at hl 0 rfl) ?_
        refine mg_11 hx hb hts hown hE hR dX2_takesApart_174 ?_
        obtain ⟨hg, hw⟩ := hw
        have hK177 : ∀ (y177_0 : Int32), y177_0 = (if (mgi σ 11) < x3 then 0 else (mga σ 10 x3.toNatClampNeg)) → ∀ (ls : Array Slot), lv_has ls 6 [(0, .ref o), (3, .int x3)] → W p l e R s m args below meth c H locs 0 0 QQ (F0 m 190 ls [.int y177_0, .int x3, .ref (ρ 16)]) := by
          intro y177_0 e_y177_0 ls hl
          have hw := hw y177_0 e_y177_0
          obtain ⟨hi_190, hw⟩ := hw
          refine mst_16 hx hb hE hap hR hS hi_190 dX2_takesApart_190 (fun σ190 e_σ190 H locs hR hS => ?_)
          have hw := hw σ190 e_σ190
          clear e_σ190
          refine lv_iinc (k := 1) (lv' := [(3, .int (x3 + 1)), (0, .ref o)]) hx hb dX2_takesApart_191 hl rfl (congrArg (x3 + ·) (by decide : Int32.ofInt 1 = 1)) (by decide) rfl (fun ls hl => ?_)
          refine lv_goto (tgt := 161) hx hb dX2_takesApart_194 (by decide) ?_
          exact ih161 σ190 (x3 + 1) hw H locs ls hR hS (lv_sub hl [1, 0] rfl)
        refine lv_icmp_gt (tgt := 189) hx hb dX2_takesApart_177 (by decide) (fun c_177 => ?_) (fun c_177 => ?_)
        · have hg := hg.1 c_177
          refine lv_iconst (v := 0) hx hb dX2_takesApart_189 (by decide) ?_
          exact hK177 _ (if_pos c_177).symm ls (lv_sub hl [0, 1] rfl)
        · have hg := hg.2 c_177
          refine lv_aload_n hx hb dX2_takesApart_180 rfl (lv_at hl 0 rfl) ?_
          refine mg_10 hx hb hts hown hE hR dX2_takesApart_181 ?_
          refine lv_iload_n hx hb dX2_takesApart_184 rfl (lv_at hl 1 rfl) ?_
          obtain ⟨hi_185, hg⟩ := hg
          refine ma_10 hx hb hE hR hi_185 dX2_takesApart_185 ?_
          refine lv_goto (tgt := 190) hx hb dX2_takesApart_186 (by decide) ?_
          exact hK177 _ (if_neg c_177).symm ls (lv_sub hl [0, 1] rfl)
  have hL62 : ∀ (n62 : Nat) (σ : mS) (x2 : Int32) (x3 : Int32), wM_takesApart_l62  Q   n62 σ x2 x3 → ∀ (H : Heap) (locs : List Loc) (ls : Array Slot), mR G o ρ σ H → va_S (mA o ρ) s.heap H locs → lv_has ls 6 [(0, .ref o), (2, .int x2), (3, .int x3)] → W p l e R s m args below meth c H locs 0 0 QQ (F0 m 62 ls []) := by
    intro  n62
    induction n62 with
    | zero => intro σ x2 x3 hw; exact hw.elim
    | succ n62 ih62 =>
      have hL82 : ∀ (x2 : Int32) (x3 : Int32) (n82 : Nat) (σ : mS) (x4 : Int32), wM_takesApart_l82 (wM_takesApart_l62  Q   n62) Q  x2 x3 n82 σ x4 → ∀ (H : Heap) (locs : List Loc) (ls : Array Slot), mR G o ρ σ H → va_S (mA o ρ) s.heap H locs → lv_has ls 6 [(0, .ref o), (2, .int x2), (3, .int x3), (4, .int x4)] → W p l e R s m args below meth c H locs 0 0 QQ (F0 m 82 ls []) := by
        intro x2 x3 n82
        induction n82 with
        | zero => intro σ x4 hw; exact hw.elim
        | succ n82 ih82 =>
          have hJ128 : ∀ (σ : mS) (x4 : Int32) (x5 : Int32), wM_takesApart_j128 (wM_takesApart_l82 (wM_takesApart_l62  Q   n62) Q  x2 x3 n82) (wM_takesApart_l62  Q   n62) Q σ x2 x3 x4 x5 → ∀ (H : Heap) (locs : List Loc) (ls : Array Slot), mR G o ρ σ H → va_S (mA o ρ) s.heap H locs → lv_has ls 6 [(0, .ref o), (2, .int x2), (3, .int x3), (4, .int x4), (5, .int x5)] → W p l e R s m args below meth c H locs 0 0 QQ (F0 m 128 ls []) := by
            intro σ x4 x5 hw H locs ls hR hS hl
            unfold wM_takesApart_j128 at hw
            refine lv_iload hx hb dX2_takesApart_128 (lv_at hl 4 rfl) ?_
            refine lv_if_le (tgt := 140) hx hb dX2_takesApart_130 (by decide) (fun c_130 => ?_) (fun c_130 => ?_)
            · have hw := hw.1 c_130
              refine lv_iinc (k := 3) (lv' := [(4, .int (x4 + 1)), (0, .ref o), (2, .int x2), (3, .int x3), (5, .int x5)]) hx hb dX2_takesApart_140 hl rfl (congrArg (x4 + ·) (by decide : Int32.ofInt 1 = 1)) (by decide) rfl (fun ls hl => ?_)
              refine lv_goto (tgt := 82) hx hb dX2_takesApart_143 (by decide) ?_
              exact ih82 σ (x4 + 1) hw H locs ls hR hS (lv_sub hl [1, 2, 3, 0] rfl)
            · have hw := hw.2 c_130
              refine lv_aload_n hx hb dX2_takesApart_133 rfl (lv_at hl 0 rfl) ?_
              refine lv_iload_n hx hb dX2_takesApart_134 rfl (lv_at hl 2 rfl) ?_
              refine lv_iload hx hb dX2_takesApart_135 (lv_at hl 4 rfl) ?_
              refine mc_vv (As := [.int x3, .int x5]) (rest := []) X (mM_addsFactor l G o ρ hap σ x3 x5 _ hw) (lw_V q2339 q2341 qs65 q_ini2 q2342) hd2_addsFactor (mm_le hRf rfl) (mm_le hRl rfl) rfl rfl (Nat.le_of_ble_eq_true rfl) dX2_takesApart_137 hR hS hl.1 (fun σ137 H locs hw hR hS => ?_)
              refine lv_iinc (k := 3) (lv' := [(4, .int (x4 + 1)), (0, .ref o), (2, .int x2), (3, .int x3), (5, .int x5)]) hx hb dX2_takesApart_140 hl rfl (congrArg (x4 + ·) (by decide : Int32.ofInt 1 = 1)) (by decide) rfl (fun ls hl => ?_)
              refine lv_goto (tgt := 82) hx hb dX2_takesApart_143 (by decide) ?_
              exact ih82 σ137 (x4 + 1) hw H locs ls hR hS (lv_sub hl [1, 2, 3, 0] rfl)
          have hL106 : ∀ (x4 : Int32) (n106 : Nat) (σ : mS) (x5 : Int32), wM_takesApart_l106 (wM_takesApart_l82 (wM_takesApart_l62  Q   n62) Q  x2 x3 n82) (wM_takesApart_l62  Q   n62) Q  x2 x3 x4 n106 σ x5 → ∀ (H : Heap) (locs : List Loc) (ls : Array Slot), mR G o ρ σ H → va_S (mA o ρ) s.heap H locs → lv_has ls 6 [(0, .ref o), (2, .int x2), (3, .int x3), (4, .int x4), (5, .int x5)] → W p l e R s m args below meth c H locs 0 0 QQ (F0 m 106 ls []) := by
            intro x4 n106
            induction n106 with
            | zero => intro σ x5 hw; exact hw.elim
            | succ n106 ih106 =>
              intro σ x5 hw H locs ls hR hS hl
              rw [wM_takesApart_l106] at hw
              refine lv_aload_n hx hb dX2_takesApart_106 rfl (lv_at hl 0 rfl) ?_
              refine mg_11 hx hb hts hown hE hR dX2_takesApart_107 ?_
              refine lv_iload_n hx hb dX2_takesApart_110 rfl (lv_at hl 2 rfl) ?_
              refine lv_icmp_lt (tgt := 128) hx hb dX2_takesApart_111 (by decide) (fun c_111 => ?_) (fun c_111 => ?_)
              · have hw := hw.1 c_111
                exact hJ128 σ x4 x5 hw H locs ls hR hS (lv_sub hl [0, 1, 2, 3, 4] rfl)
              · have hw := hw.2 c_111
                refine lv_aload_n hx hb dX2_takesApart_114 rfl (lv_at hl 0 rfl) ?_
                refine lv_iload_n hx hb dX2_takesApart_115 rfl (lv_at hl 2 rfl) ?_
                refine mc_vi (As := [.int x3]) (rest := []) X (mM_divides l G o ρ hap σ x3 _ hw) (lw_V q2335 q2337 qs64 q_ini2 q2338) hd2_divides (mm_le hRf rfl) (mm_le hRl rfl) rfl rfl (Nat.le_of_ble_eq_true rfl) dX2_takesApart_116 hR hS hl.1 (fun r116 σ116 H locs hw hR hS => ?_)
                refine lv_if_eq (tgt := 128) hx hb dX2_takesApart_119 (by decide) (fun c_119 => ?_) (fun c_119 => ?_)
                · have hw := hw.1 c_119
                  exact hJ128 σ116 x4 x5 hw H locs ls hR hS (lv_sub hl [0, 1, 2, 3, 4] rfl)
                · have hw := hw.2 c_119
                  refine lv_iinc (k := 4) (lv' := [(5, .int (x5 + 1)), (0, .ref o), (2, .int x2), (3, .int x3), (4, .int x4)]) hx hb dX2_takesApart_122 hl rfl (congrArg (x5 + ·) (by decide : Int32.ofInt 1 = 1)) (by decide) rfl (fun ls hl => ?_)
                  refine lv_goto (tgt := 106) hx hb dX2_takesApart_125 (by decide) ?_
                  exact ih106 σ116 (x5 + 1) hw H locs ls hR hS (lv_sub hl [1, 2, 3, 4, 0] rfl)
          intro σ x4 hw H locs ls hR hS hl
          rw [wM_takesApart_l82] at hw
          refine lv_iload hx hb dX2_takesApart_82 (lv_at hl 3 rfl) ?_
          refine lv_iload_n hx hb dX2_takesApart_84 rfl (lv_at hl 1 rfl) ?_
          refine lv_icmp_ge (tgt := 146) hx hb dX2_takesApart_85 (by decide) (fun c_85 => ?_) (fun c_85 => ?_)
          · have hw := hw.1 c_85
            refine lv_iinc (k := 2) (lv' := [(3, .int (x3 + 1)), (0, .ref o), (2, .int x2), (4, .int x4)]) hx hb dX2_takesApart_146 hl rfl (congrArg (x3 + ·) (by decide : Int32.ofInt 1 = 1)) (by decide) rfl (fun ls hl => ?_)
            refine lv_goto (tgt := 62) hx hb dX2_takesApart_149 (by decide) ?_
            exact ih62 σ x2 (x3 + 1) hw H locs ls hR hS (lv_sub hl [1, 2, 0] rfl)
          · have hw := hw.2 c_85
            refine lv_aload_n hx hb dX2_takesApart_88 rfl (lv_at hl 0 rfl) ?_
            refine mg_11 hx hb hts hown hE hR dX2_takesApart_89 ?_
            refine lv_iload_n hx hb dX2_takesApart_92 rfl (lv_at hl 2 rfl) ?_
            refine lv_icmp_lt (tgt := 146) hx hb dX2_takesApart_93 (by decide) (fun c_93 => ?_) (fun c_93 => ?_)
            · have hw := hw.1 c_93
              refine lv_iinc (k := 2) (lv' := [(3, .int (x3 + 1)), (0, .ref o), (2, .int x2), (4, .int x4)]) hx hb dX2_takesApart_146 hl rfl (congrArg (x3 + ·) (by decide : Int32.ofInt 1 = 1)) (by decide) rfl (fun ls hl => ?_)
              refine lv_goto (tgt := 62) hx hb dX2_takesApart_149 (by decide) ?_
              exact ih62 σ x2 (x3 + 1) hw H locs ls hR hS (lv_sub hl [1, 2, 0] rfl)
            · have hw := hw.2 c_93
              refine lv_aload_n hx hb dX2_takesApart_96 rfl (lv_at hl 0 rfl) ?_
              refine lv_iload hx hb dX2_takesApart_97 (lv_at hl 3 rfl) ?_
              refine lv_iload_n hx hb dX2_takesApart_99 rfl (lv_at hl 2 rfl) ?_
              refine mc_vv (As := [.int x4, .int x3]) (rest := []) X (mM_laysTrial l G o ρ hap σ x4 x3 _ hw) (lw_V q2331 q2333 qs63 q_ini2 q2334) hd2_laysTrial (mm_le hRf rfl) (mm_le hRl rfl) rfl rfl (Nat.le_of_ble_eq_true rfl) dX2_takesApart_100 hR hS hl.1 (fun σ100 H locs hw hR hS => ?_)
              refine lv_iconst (v := 0) hx hb dX2_takesApart_103 (by decide) ?_
              refine lv_istore (lv' := [(5, .int 0), (0, .ref o), (2, .int x2), (3, .int x3), (4, .int x4)]) hx hb dX2_takesApart_104 hl (by decide) rfl (fun ls hl => ?_)
              obtain ⟨n106, hw⟩ := hw
              exact hL106 x4 n106 σ100 (0 : Int32) hw H locs ls hR hS (lv_sub hl [1, 2, 3, 4, 0] rfl)
      intro σ x2 x3 hw H locs ls hR hS hl
      rw [wM_takesApart_l62] at hw
      refine lv_iconst (v := 2) hx hb dX2_takesApart_62 (by decide) ?_
      refine lv_iload_n hx hb dX2_takesApart_63 rfl (lv_at hl 2 rfl) ?_
      refine lv_imul hx hb dX2_takesApart_64 ?_
      refine lv_aload_n hx hb dX2_takesApart_65 rfl (lv_at hl 0 rfl) ?_
      refine mg_11 hx hb hts hown hE hR dX2_takesApart_66 ?_
      refine lv_icmp_gt (tgt := 152) hx hb dX2_takesApart_69 (by decide) (fun c_69 => ?_) (fun c_69 => ?_)
      · have hw := hw.1 c_69
        refine lv_aload_n hx hb dX2_takesApart_152 rfl (lv_at hl 0 rfl) ?_
        refine mg_11 hx hb hts hown hE hR dX2_takesApart_153 ?_
        refine lv_if_le (tgt := 206) hx hb dX2_takesApart_156 (by decide) (fun c_156 => ?_) (fun c_156 => ?_)
        · have hw := hw.1 c_156
          exact hret _ _ _ _ _ hw hR hS dX2_takesApart_206
        · have hw := hw.2 c_156
          refine lv_iconst (v := 0) hx hb dX2_takesApart_159 (by decide) ?_
          refine lv_istore_n (lv' := [(3, .int 0), (0, .ref o), (2, .int x2)]) hx hb dX2_takesApart_160 rfl hl (by decide) rfl (fun ls hl => ?_)
          obtain ⟨n161, hw⟩ := hw
          exact hL161  n161 σ (0 : Int32) hw H locs ls hR hS (lv_sub hl [1, 0] rfl)
      · have hw := hw.2 c_69
        refine lv_iload_n hx hb dX2_takesApart_72 rfl (lv_at hl 1 rfl) ?_
        refine lv_aload_n hx hb dX2_takesApart_73 rfl (lv_at hl 0 rfl) ?_
        refine mg_0 hx hb hts hown hE hR dX2_takesApart_74 ?_
        refine lv_imul hx hb dX2_takesApart_77 ?_
        refine lv_istore_n (lv' := [(2, .int (x2 * (mgi σ 0))), (0, .ref o), (3, .int x3)]) hx hb dX2_takesApart_78 rfl hl (by decide) rfl (fun ls hl => ?_)
        refine lv_iconst (v := 0) hx hb dX2_takesApart_79 (by decide) ?_
        refine lv_istore (lv' := [(4, .int 0), (2, .int (x2 * (mgi σ 0))), (0, .ref o), (3, .int x3)]) hx hb dX2_takesApart_80 hl (by decide) rfl (fun ls hl => ?_)
        obtain ⟨n82, hw⟩ := hw
        exact hL82 (x2 * (mgi σ 0)) x3 n82 σ (0 : Int32) hw H locs ls hR hS (lv_sub hl [2, 1, 3, 0] rfl)
  have hL25 : ∀ (x1 : Int32) (n25 : Nat) (σ : mS) (x2 : Int32), wM_takesApart_l25  Q  x1 n25 σ x2 → ∀ (H : Heap) (locs : List Loc) (ls : Array Slot), mR G o ρ σ H → va_S (mA o ρ) s.heap H locs → lv_has ls 6 [(0, .ref o), (1, .int x1), (2, .int x2)] → W p l e R s m args below meth c H locs 0 0 QQ (F0 m 25 ls []) := by
    intro x1 n25
    induction n25 with
    | zero => intro σ x2 hw; exact hw.elim
    | succ n25 ih25 =>
      intro σ x2 hw H locs ls hR hS hl
      rw [wM_takesApart_l25] at hw
      refine lv_iload_n hx hb dX2_takesApart_25 rfl (lv_at hl 2 rfl) ?_
      refine lv_aload_n hx hb dX2_takesApart_26 rfl (lv_at hl 0 rfl) ?_
      refine mg_11 hx hb hts hown hE hR dX2_takesApart_27 ?_
      refine lv_icmp_gt (tgt := 58) hx hb dX2_takesApart_30 (by decide) (fun c_30 => ?_) (fun c_30 => ?_)
      · have hw := hw.1 c_30
        refine lv_iconst (v := 1) hx hb dX2_takesApart_58 (by decide) ?_
        refine lv_istore_n (lv' := [(2, .int 1), (0, .ref o), (1, .int x1)]) hx hb dX2_takesApart_59 rfl hl (by decide) rfl (fun ls hl => ?_)
        refine lv_iconst (v := 1) hx hb dX2_takesApart_60 (by decide) ?_
        refine lv_istore_n (lv' := [(3, .int 1), (2, .int 1), (0, .ref o), (1, .int x1)]) hx hb dX2_takesApart_61 rfl hl (by decide) rfl (fun ls hl => ?_)
        obtain ⟨n62, hw⟩ := hw
        exact hL62  n62 σ (1 : Int32) (1 : Int32) hw H locs ls hR hS (lv_sub hl [2, 1, 0] rfl)
      · have hw := hw.2 c_30
        refine lv_aload_n hx hb dX2_takesApart_33 rfl (lv_at hl 0 rfl) ?_
        refine mg_10 hx hb hts hown hE hR dX2_takesApart_34 ?_
        refine lv_iload_n hx hb dX2_takesApart_37 rfl (lv_at hl 2 rfl) ?_
        refine lv_aload_n hx hb dX2_takesApart_38 rfl (lv_at hl 0 rfl) ?_
        refine mg_10 hx hb hts hown hE hR dX2_takesApart_39 ?_
        refine lv_iload_n hx hb dX2_takesApart_42 rfl (lv_at hl 2 rfl) ?_
        obtain ⟨hi_43, hw⟩ := hw
        refine ma_10 hx hb hE hR hi_43 dX2_takesApart_43 ?_
        refine lv_iload_n hx hb dX2_takesApart_44 rfl (lv_at hl 1 rfl) ?_
        refine lv_imul hx hb dX2_takesApart_45 ?_
        refine lv_aload_n hx hb dX2_takesApart_46 rfl (lv_at hl 0 rfl) ?_
        refine mg_0 hx hb hts hown hE hR dX2_takesApart_47 ?_
        obtain ⟨hz_50, hw⟩ := hw
        refine lv_irem hx hb dX2_takesApart_50 hz_50 ?_
        obtain ⟨hi_51, hw⟩ := hw
        refine mst_10 hx hb hE hap hR hS hi_51 dX2_takesApart_51 (fun σ51 e_σ51 H locs hR hS => ?_)
        have hw := hw σ51 e_σ51
        clear e_σ51
        refine lv_iinc (k := 2) (lv' := [(2, .int (x2 + 1)), (0, .ref o), (1, .int x1)]) hx hb dX2_takesApart_52 hl rfl (congrArg (x2 + ·) (by decide : Int32.ofInt 1 = 1)) (by decide) rfl (fun ls hl => ?_)
        refine lv_goto (tgt := 25) hx hb dX2_takesApart_55 (by decide) ?_
        exact ih25 σ51 (x2 + 1) hw H locs ls hR hS (lv_sub hl [1, 2, 0] rfl)
  intro H ls hR hS hl
  have hl : lv_has ls 6 [(0, .ref o)] := hl
  generalize ([] : List Loc) = locs at hS ⊢
  unfold wM_takesApart at hw
  refine lv_aload_n hx hb dX2_takesApart_0 rfl (lv_at hl 0 rfl) ?_
  refine lv_iconst (v := 0) hx hb dX2_takesApart_1 (by decide) ?_
  refine mp_12 hx hb hts hown hE hap hR hS dX2_takesApart_2 (fun σ2 e_σ2 H locs hR hS => ?_)
  have hw := hw σ2 e_σ2
  clear e_σ2
  refine lv_aload_n hx hb dX2_takesApart_5 rfl (lv_at hl 0 rfl) ?_
  refine mc_vv (As := []) (rest := []) X (mM_measures l G o ρ hap σ2  _ hw) (lw_V q2319 q2321 qs60 q_ini2 q2322) hd2_measures (mm_le hRf rfl) (mm_le hRl rfl) rfl rfl (Nat.le_of_ble_eq_true rfl) dX2_takesApart_6 hR hS hl.1 (fun σ6 H locs hw hR hS => ?_)
  refine lv_aload_n hx hb dX2_takesApart_9 rfl (lv_at hl 0 rfl) ?_
  refine lv_aload_n hx hb dX2_takesApart_10 rfl (lv_at hl 0 rfl) ?_
  refine mg_10 hx hb hts hown hE hR dX2_takesApart_11 ?_
  refine lv_aload_n hx hb dX2_takesApart_14 rfl (lv_at hl 0 rfl) ?_
  refine mg_11 hx hb hts hown hE hR dX2_takesApart_15 ?_
  obtain ⟨hi_18, hw⟩ := hw
  refine ma_10 hx hb hE hR hi_18 dX2_takesApart_18 ?_
  refine mc_vir (As := [.int (mga σ6 10 (mgi σ6 11).toNatClampNeg)]) (rest := []) X (mM_inverse l G o ρ hap σ6 (mga σ6 10 (mgi σ6 11).toNatClampNeg) _ hw) (lw_V q2327 q2329 qs62 q_ini2 q2330) hd2_inverse (mm_le hRf rfl) (mm_le hRl rfl) rfl rfl (Nat.le_of_ble_eq_true rfl) dX2_takesApart_19 hR hS hl.1 (fun r19 H locs hw hR hS => ?_)
  refine lv_istore_n (lv' := [(1, .int r19), (0, .ref o)]) hx hb dX2_takesApart_22 rfl hl (by decide) rfl (fun ls hl => ?_)
  refine lv_iconst (v := 0) hx hb dX2_takesApart_23 (by decide) ?_
  refine lv_istore_n (lv' := [(2, .int 0), (1, .int r19), (0, .ref o)]) hx hb dX2_takesApart_24 rfl hl (by decide) rfl (fun ls hl => ?_)
  obtain ⟨n25, hw⟩ := hw
  exact hL25 r19 n25 σ6 (0 : Int32) hw H locs ls hR hS (lv_sub hl [2, 1, 0] rfl)
def wM_factor (σ : mS) (x1 : Int32) (x2 : Int32) (x3 : Int32) (Q : Int64 → mS → Prop) : Prop :=
  wM_isSlot x1 (fun r1 => ((r1 = 0 → Q ((-9223372036854775808) : Int64) σ) ∧ (¬ r1 = 0 → wM_in (x3).toInt64 ((-3) : Int64) (8 : Int64) (fun r15 => ((r15 = 0 → Q ((-9223372036854775808) : Int64) σ) ∧ (¬ r15 = 0 → wM_laysResidues σ x1 (fun r23 σ23 => ((r23 = 0 → Q ((-9223372036854775808) : Int64) σ23) ∧ (¬ r23 = 0 → wM_takesApart σ23  (fun σ34 => ((x3 = ((-1) : Int32) → Q (mgi σ34 12).toInt64 σ34) ∧ (¬ x3 = ((-1) : Int32) → wM_in (x2).toInt64 (0 : Int64) ((mgi σ34 12) - 1).toInt64 (fun r58 => ((r58 = 0 → Q ((-9223372036854775808) : Int64) σ34) ∧ (¬ r58 = 0 → ((x3 = ((-2) : Int32) → (vp_in x2 9 ∧ True)) ∧ (¬ x3 = ((-2) : Int32) → ((x3 = ((-3) : Int32) → (vp_in x2 9 ∧ True)) ∧ (¬ x3 = ((-3) : Int32) → (vp_in ((9 * x2) + x3) 81 ∧ True))))) ∧ (∀ y71_0 : Int64, y71_0 = (if x3 = ((-2) : Int32) then (mga σ34 14 x2.toNatClampNeg).toInt64 else (if x3 = ((-3) : Int32) then (mga σ34 13 x2.toNatClampNeg).toInt64 else (mga σ34 15 ((9 * x2) + x3).toNatClampNeg).toInt64)) → Q y71_0 σ34))))))))))))))))
set_option maxHeartbeats 4000000 in
theorem mM_factor (l : Launch) (G : mG) (o : Nat) (ρ : Nat → Nat) (hap : mAp o ρ) (σ : mS) (x1 : Int32) (x2 : Int32) (x3 : Int32) (Q : Int64 → mS → Prop) (hw : wM_factor σ x1 x2 x3 Q) : mMetL l G yX2_factor (ws_ yX2_factor cX2_factor 4 (some .long)) 3 71 o ρ [.ref o, .int x1, .int x2, .int x3] σ Q := by
  refine mo_L plain2 rfl (Nat.le_of_ble_eq_true rfl) ?_
  intro p e s R m args below meth c QQ X hRf hRl hret
  obtain ⟨hx, hb, hml, hown, hts, hE⟩ := id X
  intro H ls hR hS hl
  have hl : lv_has ls 4 [(0, .ref o), (1, .int x1), (2, .int x2), (3, .int x3)] := hl
  generalize ([] : List Loc) = locs at hS ⊢
  unfold wM_factor at hw
  refine lv_iload_n hx hb dX2_factor_0 rfl (lv_at hl 1 rfl) ?_
  refine mc_si (As := [.int x1]) (rest := []) X (mM_isSlot l x1 _ hw) (lw_S q2209 q2210 q_ini2 q2211) hd2_isSlot (mm_le hRf rfl) (mm_le hRl rfl) rfl rfl (Nat.le_of_ble_eq_true rfl) dX2_factor_1 hR hS hl.1 (fun r1 H locs hw hR hS => ?_)
  refine lv_if_eq (tgt := 29) hx hb dX2_factor_4 (by decide) (fun c_4 => ?_) (fun c_4 => ?_)
  · have hw := hw.1 c_4
    refine lv_ldc2 (v := (-9223372036854775808)) hx hb hown (hts _ q2264) dX2_factor_29 ?_
    exact hret _ _ _ _ _ _ hw hR hS dX2_factor_32
  · have hw := hw.2 c_4
    refine lv_iload_n hx hb dX2_factor_7 rfl (lv_at hl 3 rfl) ?_
    refine lv_i2l hx hb dX2_factor_8 rfl ?_
    refine lv_ldc2 (v := (-3)) hx hb hown (hts _ q2309) dX2_factor_9 ?_
    refine lv_ldc2 (v := 8) hx hb hown (hts _ q2310) dX2_factor_12 ?_
    refine mc_si (As := [.long (x3).toInt64, .long ((-3) : Int64), .long (8 : Int64)]) (rest := []) X (mM_in l (x3).toInt64 ((-3) : Int64) (8 : Int64) _ hw) (lw_S q2198 q2199 q_ini2 q2200) hd2_in (mm_le hRf rfl) (mm_le hRl rfl) rfl rfl (Nat.le_of_ble_eq_true rfl) dX2_factor_15 hR hS hl.1 (fun r15 H locs hw hR hS => ?_)
    refine lv_if_eq (tgt := 29) hx hb dX2_factor_18 (by decide) (fun c_18 => ?_) (fun c_18 => ?_)
    · have hw := hw.1 c_18
      refine lv_ldc2 (v := (-9223372036854775808)) hx hb hown (hts _ q2264) dX2_factor_29 ?_
      exact hret _ _ _ _ _ _ hw hR hS dX2_factor_32
    · have hw := hw.2 c_18
      refine lv_aload_n hx hb dX2_factor_21 rfl (lv_at hl 0 rfl) ?_
      refine lv_iload_n hx hb dX2_factor_22 rfl (lv_at hl 1 rfl) ?_
      refine mc_vi (As := [.int x1]) (rest := []) X (mM_laysResidues l G o ρ hap σ x1 _ hw) (lw_V q2311 q2313 qs58 q_ini2 q2314) hd2_laysResidues (mm_le hRf rfl) (mm_le hRl rfl) rfl rfl (Nat.le_of_ble_eq_true rfl) dX2_factor_23 hR hS hl.1 (fun r23 σ23 H locs hw hR hS => ?_)
      refine lv_if_ne (tgt := 33) hx hb dX2_factor_26 (by decide) (fun c_26 => ?_) (fun c_26 => ?_)
      · have hw := hw.2 c_26
        refine lv_aload_n hx hb dX2_factor_33 rfl (lv_at hl 0 rfl) ?_
        refine mc_vv (As := []) (rest := []) X (mM_takesApart l G o ρ hap σ23  _ hw) (lw_V q2323 q2325 qs61 q_ini2 q2326) hd2_takesApart (mm_le hRf rfl) (mm_le hRl rfl) rfl rfl (Nat.le_of_ble_eq_true rfl) dX2_factor_34 hR hS hl.1 (fun σ34 H locs hw hR hS => ?_)
        refine lv_iload_n hx hb dX2_factor_37 rfl (lv_at hl 3 rfl) ?_
        refine lv_iconst (v := (-1)) hx hb dX2_factor_38 (by decide) ?_
        refine lv_icmp_ne (tgt := 48) hx hb dX2_factor_39 (by decide) (fun c_39 => ?_) (fun c_39 => ?_)
        · have hw := hw.2 c_39
          refine lv_iload_n hx hb dX2_factor_48 rfl (lv_at hl 2 rfl) ?_
          refine lv_i2l hx hb dX2_factor_49 rfl ?_
          refine lv_lconst (v := 0) hx hb dX2_factor_50 (by decide) ?_
          refine lv_aload_n hx hb dX2_factor_51 rfl (lv_at hl 0 rfl) ?_
          refine mg_12 hx hb hts hown hE hR dX2_factor_52 ?_
          refine lv_iconst (v := 1) hx hb dX2_factor_55 (by decide) ?_
          refine lv_isub hx hb dX2_factor_56 ?_
          refine lv_i2l hx hb dX2_factor_57 rfl ?_
          refine mc_si (As := [.long (x2).toInt64, .long (0 : Int64), .long ((mgi σ34 12) - 1).toInt64]) (rest := []) X (mM_in l (x2).toInt64 (0 : Int64) ((mgi σ34 12) - 1).toInt64 _ hw) (lw_S q2198 q2199 q_ini2 q2200) hd2_in (mm_le hRf rfl) (mm_le hRl rfl) rfl rfl (Nat.le_of_ble_eq_true rfl) dX2_factor_58 hR hS hl.1 (fun r58 H locs hw hR hS => ?_)
          refine lv_if_ne (tgt := 68) hx hb dX2_factor_61 (by decide) (fun c_61 => ?_) (fun c_61 => ?_)
          · have hw := hw.2 c_61
            refine lv_iload_n hx hb dX2_factor_68 rfl (lv_at hl 3 rfl) ?_
            refine lv_bipush (v := (-2)) hx hb dX2_factor_69 (by decide) ?_
            obtain ⟨hg, hw⟩ := hw
            have hK71 : ∀ (y71_0 : Int64), y71_0 = (if x3 = ((-2) : Int32) then (mga σ34 14 x2.toNatClampNeg).toInt64 else (if x3 = ((-3) : Int32) then (mga σ34 13 x2.toNatClampNeg).toInt64 else (mga σ34 15 ((9 * x2) + x3).toNatClampNeg).toInt64)) → ∀ (ls : Array Slot), lv_has ls 4 [] → W p l e R s m args below meth c H locs 0 0 QQ (F0 m 112 ls [.long y71_0]) := by
              intro y71_0 e_y71_0 ls hl
              have hw := hw y71_0 e_y71_0
              exact hret _ _ _ _ _ _ hw hR hS dX2_factor_112
            refine lv_icmp_ne (tgt := 84) hx hb dX2_factor_71 (by decide) (fun c_71 => ?_) (fun c_71 => ?_)
            · have hg := hg.2 c_71
              refine lv_iload_n hx hb dX2_factor_84 rfl (lv_at hl 3 rfl) ?_
              refine lv_bipush (v := (-3)) hx hb dX2_factor_85 (by decide) ?_
              refine lv_icmp_ne (tgt := 100) hx hb dX2_factor_87 (by decide) (fun c_87 => ?_) (fun c_87 => ?_)
              · have hg := hg.2 c_87
                refine lv_aload_n hx hb dX2_factor_100 rfl (lv_at hl 0 rfl) ?_
                refine mg_15 hx hb hts hown hE hR dX2_factor_101 ?_
                refine lv_bipush (v := 9) hx hb dX2_factor_104 (by decide) ?_
                refine lv_iload_n hx hb dX2_factor_106 rfl (lv_at hl 2 rfl) ?_
                refine lv_imul hx hb dX2_factor_107 ?_
                refine lv_iload_n hx hb dX2_factor_108 rfl (lv_at hl 3 rfl) ?_
                refine lv_iadd hx hb dX2_factor_109 ?_
                obtain ⟨hi_110, hg⟩ := hg
                refine ma_15 hx hb hE hR hi_110 dX2_factor_110 ?_
                refine lv_i2l hx hb dX2_factor_111 rfl ?_
                exact hK71 _ ((if_neg c_87).symm.trans (if_neg c_71).symm) ls (lv_sub hl [] rfl)
              · have hg := hg.1 c_87
                refine lv_aload_n hx hb dX2_factor_90 rfl (lv_at hl 0 rfl) ?_
                refine mg_13 hx hb hts hown hE hR dX2_factor_91 ?_
                refine lv_iload_n hx hb dX2_factor_94 rfl (lv_at hl 2 rfl) ?_
                obtain ⟨hi_95, hg⟩ := hg
                refine ma_13 hx hb hE hR hi_95 dX2_factor_95 ?_
                refine lv_i2l hx hb dX2_factor_96 rfl ?_
                refine lv_goto (tgt := 112) hx hb dX2_factor_97 (by decide) ?_
                exact hK71 _ ((if_pos c_87).symm.trans (if_neg c_71).symm) ls (lv_sub hl [] rfl)
            · have hg := hg.1 c_71
              refine lv_aload_n hx hb dX2_factor_74 rfl (lv_at hl 0 rfl) ?_
              refine mg_14 hx hb hts hown hE hR dX2_factor_75 ?_
              refine lv_iload_n hx hb dX2_factor_78 rfl (lv_at hl 2 rfl) ?_
              obtain ⟨hi_79, hg⟩ := hg
              refine ma_14 hx hb hE hR hi_79 dX2_factor_79 ?_
              refine lv_i2l hx hb dX2_factor_80 rfl ?_
              refine lv_goto (tgt := 112) hx hb dX2_factor_81 (by decide) ?_
              exact hK71 _ (if_pos c_71).symm ls (lv_sub hl [] rfl)
          · have hw := hw.1 c_61
            refine lv_ldc2 (v := (-9223372036854775808)) hx hb hown (hts _ q2264) dX2_factor_64 ?_
            exact hret _ _ _ _ _ _ hw hR hS dX2_factor_67
        · have hw := hw.1 c_39
          refine lv_aload_n hx hb dX2_factor_42 rfl (lv_at hl 0 rfl) ?_
          refine mg_12 hx hb hts hown hE hR dX2_factor_43 ?_
          refine lv_i2l hx hb dX2_factor_46 rfl ?_
          exact hret _ _ _ _ _ _ hw hR hS dX2_factor_47
      · have hw := hw.1 c_26
        refine lv_ldc2 (v := (-9223372036854775808)) hx hb hown (hts _ q2264) dX2_factor_29 ?_
        exact hret _ _ _ _ _ _ hw hR hS dX2_factor_32
def wM_addsLeaf (σ : mS) (x1 : Int32) (x2 : Int32) (x3 : Int32) (x4 : Int32) (x5 : Int32) (Q : mS → Prop) : Prop :=
  vp_in (mgi σ 23) 20 ∧ (∀ σ9 : mS, σ9 = mpa σ 44 (mgi σ 23).toNatClampNeg x1 → vp_in (mgi σ9 23) 20 ∧ (∀ σ19 : mS, σ19 = mpa σ9 45 (mgi σ9 23).toNatClampNeg x2 → vp_in (mgi σ19 23) 20 ∧ (∀ σ29 : mS, σ29 = mpa σ19 46 (mgi σ19 23).toNatClampNeg x3 → vp_in (mgi σ29 23) 20 ∧ (∀ σ40 : mS, σ40 = mpa σ29 47 (mgi σ29 23).toNatClampNeg x4 → vp_in (mgi σ40 23) 20 ∧ (∀ σ51 : mS, σ51 = mpa σ40 48 (mgi σ40 23).toNatClampNeg x5 → ∀ σ59 : mS, σ59 = mpi σ51 23 ((mgi σ51 23) + 1) → Q σ59)))))
set_option maxHeartbeats 4000000 in
theorem mM_addsLeaf (l : Launch) (G : mG) (o : Nat) (ρ : Nat → Nat) (hap : mAp o ρ) (σ : mS) (x1 : Int32) (x2 : Int32) (x3 : Int32) (x4 : Int32) (x5 : Int32) (Q : mS → Prop) (hw : wM_addsLeaf σ x1 x2 x3 x4 x5 Q) : mMetV l G yX2_addsLeaf (ws_ yX2_addsLeaf cX2_addsLeaf 6 none) 0 0 o ρ [.ref o, .int x1, .int x2, .int x3, .int x4, .int x5] σ Q := by
  refine mo_V plain2 rfl (Nat.le_of_ble_eq_true rfl) ?_
  intro p e s R m args below meth c QQ X hRf hRl hret
  obtain ⟨hx, hb, hml, hown, hts, hE⟩ := id X
  intro H ls hR hS hl
  have hl : lv_has ls 6 [(0, .ref o), (1, .int x1), (2, .int x2), (3, .int x3), (4, .int x4), (5, .int x5)] := hl
  generalize ([] : List Loc) = locs at hS ⊢
  unfold wM_addsLeaf at hw
  refine lv_aload_n hx hb dX2_addsLeaf_0 rfl (lv_at hl 0 rfl) ?_
  refine mg_44 hx hb hts hown hE hR dX2_addsLeaf_1 ?_
  refine lv_aload_n hx hb dX2_addsLeaf_4 rfl (lv_at hl 0 rfl) ?_
  refine mg_23 hx hb hts hown hE hR dX2_addsLeaf_5 ?_
  refine lv_iload_n hx hb dX2_addsLeaf_8 rfl (lv_at hl 1 rfl) ?_
  obtain ⟨hi_9, hw⟩ := hw
  refine mst_44 hx hb hE hap hR hS hi_9 dX2_addsLeaf_9 (fun σ9 e_σ9 H locs hR hS => ?_)
  have hw := hw σ9 e_σ9
  clear e_σ9
  refine lv_aload_n hx hb dX2_addsLeaf_10 rfl (lv_at hl 0 rfl) ?_
  refine mg_45 hx hb hts hown hE hR dX2_addsLeaf_11 ?_
  refine lv_aload_n hx hb dX2_addsLeaf_14 rfl (lv_at hl 0 rfl) ?_
  refine mg_23 hx hb hts hown hE hR dX2_addsLeaf_15 ?_
  refine lv_iload_n hx hb dX2_addsLeaf_18 rfl (lv_at hl 2 rfl) ?_
  obtain ⟨hi_19, hw⟩ := hw
  refine mst_45 hx hb hE hap hR hS hi_19 dX2_addsLeaf_19 (fun σ19 e_σ19 H locs hR hS => ?_)
  have hw := hw σ19 e_σ19
  clear e_σ19
  refine lv_aload_n hx hb dX2_addsLeaf_20 rfl (lv_at hl 0 rfl) ?_
  refine mg_46 hx hb hts hown hE hR dX2_addsLeaf_21 ?_
  refine lv_aload_n hx hb dX2_addsLeaf_24 rfl (lv_at hl 0 rfl) ?_
  refine mg_23 hx hb hts hown hE hR dX2_addsLeaf_25 ?_
  refine lv_iload_n hx hb dX2_addsLeaf_28 rfl (lv_at hl 3 rfl) ?_
  obtain ⟨hi_29, hw⟩ := hw
  refine mst_46 hx hb hE hap hR hS hi_29 dX2_addsLeaf_29 (fun σ29 e_σ29 H locs hR hS => ?_)
  have hw := hw σ29 e_σ29
  clear e_σ29
  refine lv_aload_n hx hb dX2_addsLeaf_30 rfl (lv_at hl 0 rfl) ?_
  refine mg_47 hx hb hts hown hE hR dX2_addsLeaf_31 ?_
  refine lv_aload_n hx hb dX2_addsLeaf_34 rfl (lv_at hl 0 rfl) ?_
  refine mg_23 hx hb hts hown hE hR dX2_addsLeaf_35 ?_
  refine lv_iload hx hb dX2_addsLeaf_38 (lv_at hl 4 rfl) ?_
  obtain ⟨hi_40, hw⟩ := hw
  refine mst_47 hx hb hE hap hR hS hi_40 dX2_addsLeaf_40 (fun σ40 e_σ40 H locs hR hS => ?_)
  have hw := hw σ40 e_σ40
  clear e_σ40
  refine lv_aload_n hx hb dX2_addsLeaf_41 rfl (lv_at hl 0 rfl) ?_
  refine mg_48 hx hb hts hown hE hR dX2_addsLeaf_42 ?_
  refine lv_aload_n hx hb dX2_addsLeaf_45 rfl (lv_at hl 0 rfl) ?_
  refine mg_23 hx hb hts hown hE hR dX2_addsLeaf_46 ?_
  refine lv_iload hx hb dX2_addsLeaf_49 (lv_at hl 5 rfl) ?_
  obtain ⟨hi_51, hw⟩ := hw
  refine mst_48 hx hb hE hap hR hS hi_51 dX2_addsLeaf_51 (fun σ51 e_σ51 H locs hR hS => ?_)
  have hw := hw σ51 e_σ51
  clear e_σ51
  refine lv_aload_n hx hb dX2_addsLeaf_52 rfl (lv_at hl 0 rfl) ?_
  refine lv_dup hx hb dX2_addsLeaf_53 rfl ?_
  refine mg_23 hx hb hts hown hE hR dX2_addsLeaf_54 ?_
  refine lv_iconst (v := 1) hx hb dX2_addsLeaf_57 (by decide) ?_
  refine lv_iadd hx hb dX2_addsLeaf_58 ?_
  refine mp_23 hx hb hts hown hE hap hR hS dX2_addsLeaf_59 (fun σ59 e_σ59 H locs hR hS => ?_)
  have hw := hw σ59 e_σ59
  clear e_σ59
  exact hret _ _ _ _ _ hw hR hS dX2_addsLeaf_62
def wM_rootOf (σ : mS) (x1 : Int32) (Q : Int32 → Prop) : Prop :=
  vp_in (9 * x1) 81 ∧ (¬ (mgi σ 0) = 0 ∧ (Q (((mgi σ 0) - (mga σ 15 (9 * x1).toNatClampNeg)) - ((mgi σ 0) - (mga σ 15 (9 * x1).toNatClampNeg)) / (mgi σ 0) * (mgi σ 0))))
set_option maxHeartbeats 4000000 in
theorem mM_rootOf (l : Launch) (G : mG) (o : Nat) (ρ : Nat → Nat) (hap : mAp o ρ) (σ : mS) (x1 : Int32) (Q : Int32 → Prop) (hw : wM_rootOf σ x1 Q) : mMetI l G yX2_rootOf (ws_ yX2_rootOf cX2_rootOf 2 (some .int)) 0 0 o ρ [.ref o, .int x1] σ (fun r τ => σ = τ ∧ Q r) := by
  refine mo_I plain2 rfl (Nat.le_of_ble_eq_true rfl) ?_
  intro p e s R m args below meth c QQ X hRf hRl hret
  obtain ⟨hx, hb, hml, hown, hts, hE⟩ := id X
  intro H ls hR hS hl
  have hl : lv_has ls 2 [(0, .ref o), (1, .int x1)] := hl
  generalize ([] : List Loc) = locs at hS ⊢
  unfold wM_rootOf at hw
  refine lv_aload_n hx hb dX2_rootOf_0 rfl (lv_at hl 0 rfl) ?_
  refine mg_0 hx hb hts hown hE hR dX2_rootOf_1 ?_
  refine lv_aload_n hx hb dX2_rootOf_4 rfl (lv_at hl 0 rfl) ?_
  refine mg_15 hx hb hts hown hE hR dX2_rootOf_5 ?_
  refine lv_bipush (v := 9) hx hb dX2_rootOf_8 (by decide) ?_
  refine lv_iload_n hx hb dX2_rootOf_10 rfl (lv_at hl 1 rfl) ?_
  refine lv_imul hx hb dX2_rootOf_11 ?_
  obtain ⟨hi_12, hw⟩ := hw
  refine ma_15 hx hb hE hR hi_12 dX2_rootOf_12 ?_
  refine lv_isub hx hb dX2_rootOf_13 ?_
  refine lv_aload_n hx hb dX2_rootOf_14 rfl (lv_at hl 0 rfl) ?_
  refine mg_0 hx hb hts hown hE hR dX2_rootOf_15 ?_
  obtain ⟨hz_18, hw⟩ := hw
  refine lv_irem hx hb dX2_rootOf_18 hz_18 ?_
  exact hret _ _ _ _ _ _ ⟨rfl, hw⟩ hR hS dX2_rootOf_19
def wM_newKnot_l54  (Q : Int32 → mS → Prop)  (x3 : Int32) : Nat → mS → Int32 → Prop
  | 0, _, _ => False
  | n + 1, σ, x4 => (((9 : Int32) ≤ x4 → Q x3 σ) ∧ (¬ (9 : Int32) ≤ x4 → vp_in ((9 * x3) + x4) 369 ∧ (∀ σ73 : mS, σ73 = mpl σ 9 ((9 * x3) + x4).toNatClampNeg 0 → wM_newKnot_l54  Q  x3 n σ73 (x4 + 1))))
def wM_newKnot (σ : mS) (x1 : Int32) (x2 : Int32) (Q : Int32 → mS → Prop) : Prop :=
  ∀ σ12 : mS, σ12 = mpi σ 21 ((mgi σ 21) + 1) → ((0 ≤ x1 → (vp_in x1 40 ∧ True)) ∧ (¬ 0 ≤ x1 → True)) ∧ (∀ y21_0 : Int32, y21_0 = (if 0 ≤ x1 then ((mga σ12 24 x1.toNatClampNeg) + 1) else 1) → vp_in (mgi σ 21) 40 ∧ (∀ σ36 : mS, σ36 = mpa σ12 24 (mgi σ 21).toNatClampNeg y21_0 → vp_in (mgi σ 21) 40 ∧ (∀ σ43 : mS, σ43 = mpa σ36 25 (mgi σ 21).toNatClampNeg x2 → vp_in (mgi σ 21) 40 ∧ (∀ σ50 : mS, σ50 = mpa σ43 26 (mgi σ 21).toNatClampNeg x1 → (∃ k54 : Nat, wM_newKnot_l54  Q  (mgi σ 21) k54 σ50 (0 : Int32))))))
set_option maxHeartbeats 4000000 in
theorem mM_newKnot (l : Launch) (G : mG) (o : Nat) (ρ : Nat → Nat) (hap : mAp o ρ) (σ : mS) (x1 : Int32) (x2 : Int32) (Q : Int32 → mS → Prop) (hw : wM_newKnot σ x1 x2 Q) : mMetI l G yX2_newKnot (ws_ yX2_newKnot cX2_newKnot 5 (some .int)) 0 0 o ρ [.ref o, .int x1, .int x2] σ Q := by
  refine mo_I plain2 rfl (Nat.le_of_ble_eq_true rfl) ?_
  intro p e s R m args below meth c QQ X hRf hRl hret
  obtain ⟨hx, hb, hml, hown, hts, hE⟩ := id X
  have hL54 : ∀ (x3 : Int32) (n54 : Nat) (σ : mS) (x4 : Int32), wM_newKnot_l54  Q  x3 n54 σ x4 → ∀ (H : Heap) (locs : List Loc) (ls : Array Slot), mR G o ρ σ H → va_S (mA o ρ) s.heap H locs → lv_has ls 5 [(0, .ref o), (3, .int x3), (4, .int x4)] → W p l e R s m args below meth c H locs 0 0 QQ (F0 m 54 ls []) := by
    intro x3 n54
    induction n54 with
    | zero => intro σ x4 hw; exact hw.elim
    | succ n54 ih54 =>
      intro σ x4 hw H locs ls hR hS hl
      rw [wM_newKnot_l54] at hw
      refine lv_iload hx hb dX2_newKnot_54 (lv_at hl 2 rfl) ?_
      refine lv_bipush (v := 9) hx hb dX2_newKnot_56 (by decide) ?_
      refine lv_icmp_ge (tgt := 80) hx hb dX2_newKnot_58 (by decide) (fun c_58 => ?_) (fun c_58 => ?_)
      · have hw := hw.1 c_58
        refine lv_iload_n hx hb dX2_newKnot_80 rfl (lv_at hl 1 rfl) ?_
        exact hret _ _ _ _ _ _ hw hR hS dX2_newKnot_81
      · have hw := hw.2 c_58
        refine lv_aload_n hx hb dX2_newKnot_61 rfl (lv_at hl 0 rfl) ?_
        refine mg_9 hx hb hts hown hE hR dX2_newKnot_62 ?_
        refine lv_bipush (v := 9) hx hb dX2_newKnot_65 (by decide) ?_
        refine lv_iload_n hx hb dX2_newKnot_67 rfl (lv_at hl 1 rfl) ?_
        refine lv_imul hx hb dX2_newKnot_68 ?_
        refine lv_iload hx hb dX2_newKnot_69 (lv_at hl 2 rfl) ?_
        refine lv_iadd hx hb dX2_newKnot_71 ?_
        refine lv_lconst (v := 0) hx hb dX2_newKnot_72 (by decide) ?_
        obtain ⟨hi_73, hw⟩ := hw
        refine mst_9 hx hb hE hap hR hS hi_73 dX2_newKnot_73 (fun σ73 e_σ73 H locs hR hS => ?_)
        have hw := hw σ73 e_σ73
        clear e_σ73
        refine lv_iinc (k := 2) (lv' := [(4, .int (x4 + 1)), (0, .ref o), (3, .int x3)]) hx hb dX2_newKnot_74 hl rfl (congrArg (x4 + ·) (by decide : Int32.ofInt 1 = 1)) (by decide) rfl (fun ls hl => ?_)
        refine lv_goto (tgt := 54) hx hb dX2_newKnot_77 (by decide) ?_
        exact ih54 σ73 (x4 + 1) hw H locs ls hR hS (lv_sub hl [1, 2, 0] rfl)
  intro H ls hR hS hl
  have hl : lv_has ls 5 [(0, .ref o), (1, .int x1), (2, .int x2)] := hl
  generalize ([] : List Loc) = locs at hS ⊢
  unfold wM_newKnot at hw
  refine lv_aload_n hx hb dX2_newKnot_0 rfl (lv_at hl 0 rfl) ?_
  refine mg_21 hx hb hts hown hE hR dX2_newKnot_1 ?_
  refine lv_istore_n (lv' := [(3, .int (mgi σ 21)), (0, .ref o), (1, .int x1), (2, .int x2)]) hx hb dX2_newKnot_4 rfl hl (by decide) rfl (fun ls hl => ?_)
  refine lv_aload_n hx hb dX2_newKnot_5 rfl (lv_at hl 1 rfl) ?_
  refine lv_dup hx hb dX2_newKnot_6 rfl ?_
  refine mg_21 hx hb hts hown hE hR dX2_newKnot_7 ?_
  refine lv_iconst (v := 1) hx hb dX2_newKnot_10 (by decide) ?_
  refine lv_iadd hx hb dX2_newKnot_11 ?_
  refine mp_21 hx hb hts hown hE hap hR hS dX2_newKnot_12 (fun σ12 e_σ12 H locs hR hS => ?_)
  have hw := hw σ12 e_σ12
  clear e_σ12
  refine lv_aload_n hx hb dX2_newKnot_15 rfl (lv_at hl 1 rfl) ?_
  refine mg_24 hx hb hts hown hE hR dX2_newKnot_16 ?_
  refine lv_iload_n hx hb dX2_newKnot_19 rfl (lv_at hl 0 rfl) ?_
  refine lv_iload_n hx hb dX2_newKnot_20 rfl (lv_at hl 2 rfl) ?_
  obtain ⟨hg, hw⟩ := hw
  have hK21 : ∀ (y21_0 : Int32), y21_0 = (if 0 ≤ x1 then ((mga σ12 24 x1.toNatClampNeg) + 1) else 1) → ∀ (ls : Array Slot), lv_has ls 5 [(0, .ref o), (1, .int x1), (2, .int x2), (3, .int (mgi σ 21))] → W p l e R s m args below meth c H locs 0 0 QQ (F0 m 36 ls [.int y21_0, .int (mgi σ 21), .ref (ρ 24)]) := by
    intro y21_0 e_y21_0 ls hl
    have hw := hw y21_0 e_y21_0
    obtain ⟨hi_36, hw⟩ := hw
    refine mst_24 hx hb hE hap hR hS hi_36 dX2_newKnot_36 (fun σ36 e_σ36 H locs hR hS => ?_)
    have hw := hw σ36 e_σ36
    clear e_σ36
    refine lv_aload_n hx hb dX2_newKnot_37 rfl (lv_at hl 0 rfl) ?_
    refine mg_25 hx hb hts hown hE hR dX2_newKnot_38 ?_
    refine lv_iload_n hx hb dX2_newKnot_41 rfl (lv_at hl 3 rfl) ?_
    refine lv_iload_n hx hb dX2_newKnot_42 rfl (lv_at hl 2 rfl) ?_
    obtain ⟨hi_43, hw⟩ := hw
    refine mst_25 hx hb hE hap hR hS hi_43 dX2_newKnot_43 (fun σ43 e_σ43 H locs hR hS => ?_)
    have hw := hw σ43 e_σ43
    clear e_σ43
    refine lv_aload_n hx hb dX2_newKnot_44 rfl (lv_at hl 0 rfl) ?_
    refine mg_26 hx hb hts hown hE hR dX2_newKnot_45 ?_
    refine lv_iload_n hx hb dX2_newKnot_48 rfl (lv_at hl 3 rfl) ?_
    refine lv_iload_n hx hb dX2_newKnot_49 rfl (lv_at hl 1 rfl) ?_
    obtain ⟨hi_50, hw⟩ := hw
    refine mst_26 hx hb hE hap hR hS hi_50 dX2_newKnot_50 (fun σ50 e_σ50 H locs hR hS => ?_)
    have hw := hw σ50 e_σ50
    clear e_σ50
    refine lv_iconst (v := 0) hx hb dX2_newKnot_51 (by decide) ?_
    refine lv_istore (lv' := [(4, .int 0), (0, .ref o), (1, .int x1), (2, .int x2), (3, .int (mgi σ 21))]) hx hb dX2_newKnot_52 hl (by decide) rfl (fun ls hl => ?_)
    obtain ⟨n54, hw⟩ := hw
    exact hL54 (mgi σ 21) n54 σ50 (0 : Int32) hw H locs ls hR hS (lv_sub hl [1, 4, 0] rfl)
  refine lv_if_ge (tgt := 28) hx hb dX2_newKnot_21 (by decide) (fun c_21 => ?_) (fun c_21 => ?_)
  · have hg := hg.1 c_21
    refine lv_aload_n hx hb dX2_newKnot_28 rfl (lv_at hl 1 rfl) ?_
    refine mg_24 hx hb hts hown hE hR dX2_newKnot_29 ?_
    refine lv_iload_n hx hb dX2_newKnot_32 rfl (lv_at hl 2 rfl) ?_
    obtain ⟨hi_33, hg⟩ := hg
    refine ma_24 hx hb hE hR hi_33 dX2_newKnot_33 ?_
    refine lv_iconst (v := 1) hx hb dX2_newKnot_34 (by decide) ?_
    refine lv_iadd hx hb dX2_newKnot_35 ?_
    exact hK21 _ (if_pos c_21).symm ls (lv_sub hl [1, 2, 3, 0] rfl)
  · have hg := hg.2 c_21
    refine lv_iconst (v := 1) hx hb dX2_newKnot_24 (by decide) ?_
    refine lv_goto (tgt := 36) hx hb dX2_newKnot_25 (by decide) ?_
    exact hK21 _ (if_neg c_21).symm ls (lv_sub hl [1, 2, 3, 0] rfl)
def wM_takesKnot_l60  (Q : mS → Prop)   : Nat → mS → Int32 → Prop
  | 0, _, _ => False
  | n + 1, σ, x3 => (((mgi σ 49) ≤ x3 → Q σ) ∧ (¬ (mgi σ 49) ≤ x3 → vp_in x3 8 ∧ (vp_in (mga σ 54 x3.toNatClampNeg) 40 ∧ (vp_in x3 8 ∧ (∀ σ84 : mS, σ84 = mpa σ 50 x3.toNatClampNeg (mga σ 32 (mga σ 54 x3.toNatClampNeg).toNatClampNeg) → vp_in x3 8 ∧ (vp_in (mga σ84 54 x3.toNatClampNeg) 40 ∧ (vp_in x3 8 ∧ (∀ σ101 : mS, σ101 = mpa σ84 52 x3.toNatClampNeg (mga σ84 33 (mga σ84 54 x3.toNatClampNeg).toNatClampNeg) → vp_in x3 8 ∧ (vp_in x3 8 ∧ (vp_in (x3 + 1) 8 ∧ (∀ σ122 : mS, σ122 = mpa σ101 51 (x3 + 1).toNatClampNeg ((mga σ101 51 x3.toNatClampNeg) * (mga σ101 50 x3.toNatClampNeg)) → wM_takesKnot_l60  Q   n σ122 (x3 + 1))))))))))))
def wM_takesKnot_l17  (Q : mS → Prop)   : Nat → mS → Int32 → Int32 → Prop
  | 0, _, _, _ => False
  | n + 1, σ, x2, x3 => ((x3 < (1 : Int32) → ∀ σ57 : mS, σ57 = mpa σ 51 (1 : Int32).toNatClampNeg 1 → (∃ k60 : Nat, wM_takesKnot_l60  Q   k60 σ57 (1 : Int32))) ∧ (¬ x3 < (1 : Int32) → vp_in x3 8 ∧ (∀ σ28 : mS, σ28 = mpa σ 53 x3.toNatClampNeg x2 → vp_in (x3 - 1) 8 ∧ (∀ σ37 : mS, σ37 = mpa σ28 54 (x3 - 1).toNatClampNeg x2 → vp_in x2 40 ∧ (wM_takesKnot_l17  Q   n σ37 (mga σ37 26 x2.toNatClampNeg) (x3 + (-1)))))))
def wM_takesKnot (σ : mS) (x1 : Int32) (Q : mS → Prop) : Prop :=
  vp_in x1 40 ∧ (∀ σ7 : mS, σ7 = mpi σ 49 (mga σ 24 x1.toNatClampNeg) → (∃ k17 : Nat, wM_takesKnot_l17  Q   k17 σ7 x1 (mgi σ7 49)))
set_option maxHeartbeats 4000000 in
theorem mM_takesKnot (l : Launch) (G : mG) (o : Nat) (ρ : Nat → Nat) (hap : mAp o ρ) (σ : mS) (x1 : Int32) (Q : mS → Prop) (hw : wM_takesKnot σ x1 Q) : mMetV l G yX2_takesKnot (ws_ yX2_takesKnot cX2_takesKnot 4 none) 0 0 o ρ [.ref o, .int x1] σ Q := by
  refine mo_V plain2 rfl (Nat.le_of_ble_eq_true rfl) ?_
  intro p e s R m args below meth c QQ X hRf hRl hret
  obtain ⟨hx, hb, hml, hown, hts, hE⟩ := id X
  have hL60 : ∀ (n60 : Nat) (σ : mS) (x3 : Int32), wM_takesKnot_l60  Q   n60 σ x3 → ∀ (H : Heap) (locs : List Loc) (ls : Array Slot), mR G o ρ σ H → va_S (mA o ρ) s.heap H locs → lv_has ls 4 [(0, .ref o), (3, .int x3)] → W p l e R s m args below meth c H locs 0 0 QQ (F0 m 60 ls []) := by
    intro  n60
    induction n60 with
    | zero => intro σ x3 hw; exact hw.elim
    | succ n60 ih60 =>
      intro σ x3 hw H locs ls hR hS hl
      rw [wM_takesKnot_l60] at hw
      refine lv_iload_n hx hb dX2_takesKnot_60 rfl (lv_at hl 1 rfl) ?_
      refine lv_aload_n hx hb dX2_takesKnot_61 rfl (lv_at hl 0 rfl) ?_
      refine mg_49 hx hb hts hown hE hR dX2_takesKnot_62 ?_
      refine lv_icmp_ge (tgt := 129) hx hb dX2_takesKnot_65 (by decide) (fun c_65 => ?_) (fun c_65 => ?_)
      · have hw := hw.1 c_65
        exact hret _ _ _ _ _ hw hR hS dX2_takesKnot_129
      · have hw := hw.2 c_65
        refine lv_aload_n hx hb dX2_takesKnot_68 rfl (lv_at hl 0 rfl) ?_
        refine mg_50 hx hb hts hown hE hR dX2_takesKnot_69 ?_
        refine lv_iload_n hx hb dX2_takesKnot_72 rfl (lv_at hl 1 rfl) ?_
        refine lv_aload_n hx hb dX2_takesKnot_73 rfl (lv_at hl 0 rfl) ?_
        refine mg_32 hx hb hts hown hE hR dX2_takesKnot_74 ?_
        refine lv_aload_n hx hb dX2_takesKnot_77 rfl (lv_at hl 0 rfl) ?_
        refine mg_54 hx hb hts hown hE hR dX2_takesKnot_78 ?_
        refine lv_iload_n hx hb dX2_takesKnot_81 rfl (lv_at hl 1 rfl) ?_
        obtain ⟨hi_82, hw⟩ := hw
        refine ma_54 hx hb hE hR hi_82 dX2_takesKnot_82 ?_
        obtain ⟨hi_83, hw⟩ := hw
        refine ma_32 hx hb hE hR hi_83 dX2_takesKnot_83 ?_
        obtain ⟨hi_84, hw⟩ := hw
        refine mst_50 hx hb hE hap hR hS hi_84 dX2_takesKnot_84 (fun σ84 e_σ84 H locs hR hS => ?_)
        have hw := hw σ84 e_σ84
        clear e_σ84
        refine lv_aload_n hx hb dX2_takesKnot_85 rfl (lv_at hl 0 rfl) ?_
        refine mg_52 hx hb hts hown hE hR dX2_takesKnot_86 ?_
        refine lv_iload_n hx hb dX2_takesKnot_89 rfl (lv_at hl 1 rfl) ?_
        refine lv_aload_n hx hb dX2_takesKnot_90 rfl (lv_at hl 0 rfl) ?_
        refine mg_33 hx hb hts hown hE hR dX2_takesKnot_91 ?_
        refine lv_aload_n hx hb dX2_takesKnot_94 rfl (lv_at hl 0 rfl) ?_
        refine mg_54 hx hb hts hown hE hR dX2_takesKnot_95 ?_
        refine lv_iload_n hx hb dX2_takesKnot_98 rfl (lv_at hl 1 rfl) ?_
        obtain ⟨hi_99, hw⟩ := hw
        refine ma_54 hx hb hE hR hi_99 dX2_takesKnot_99 ?_
        obtain ⟨hi_100, hw⟩ := hw
        refine ma_33 hx hb hE hR hi_100 dX2_takesKnot_100 ?_
        obtain ⟨hi_101, hw⟩ := hw
        refine mst_52 hx hb hE hap hR hS hi_101 dX2_takesKnot_101 (fun σ101 e_σ101 H locs hR hS => ?_)
        have hw := hw σ101 e_σ101
        clear e_σ101
        refine lv_aload_n hx hb dX2_takesKnot_102 rfl (lv_at hl 0 rfl) ?_
        refine mg_51 hx hb hts hown hE hR dX2_takesKnot_103 ?_
        refine lv_iload_n hx hb dX2_takesKnot_106 rfl (lv_at hl 1 rfl) ?_
        refine lv_iconst (v := 1) hx hb dX2_takesKnot_107 (by decide) ?_
        refine lv_iadd hx hb dX2_takesKnot_108 ?_
        refine lv_aload_n hx hb dX2_takesKnot_109 rfl (lv_at hl 0 rfl) ?_
        refine mg_51 hx hb hts hown hE hR dX2_takesKnot_110 ?_
        refine lv_iload_n hx hb dX2_takesKnot_113 rfl (lv_at hl 1 rfl) ?_
        obtain ⟨hi_114, hw⟩ := hw
        refine ma_51 hx hb hE hR hi_114 dX2_takesKnot_114 ?_
        refine lv_aload_n hx hb dX2_takesKnot_115 rfl (lv_at hl 0 rfl) ?_
        refine mg_50 hx hb hts hown hE hR dX2_takesKnot_116 ?_
        refine lv_iload_n hx hb dX2_takesKnot_119 rfl (lv_at hl 1 rfl) ?_
        obtain ⟨hi_120, hw⟩ := hw
        refine ma_50 hx hb hE hR hi_120 dX2_takesKnot_120 ?_
        refine lv_imul hx hb dX2_takesKnot_121 ?_
        obtain ⟨hi_122, hw⟩ := hw
        refine mst_51 hx hb hE hap hR hS hi_122 dX2_takesKnot_122 (fun σ122 e_σ122 H locs hR hS => ?_)
        have hw := hw σ122 e_σ122
        clear e_σ122
        refine lv_iinc (k := 1) (lv' := [(3, .int (x3 + 1)), (0, .ref o)]) hx hb dX2_takesKnot_123 hl rfl (congrArg (x3 + ·) (by decide : Int32.ofInt 1 = 1)) (by decide) rfl (fun ls hl => ?_)
        refine lv_goto (tgt := 60) hx hb dX2_takesKnot_126 (by decide) ?_
        exact ih60 σ122 (x3 + 1) hw H locs ls hR hS (lv_sub hl [1, 0] rfl)
  have hL17 : ∀ (n17 : Nat) (σ : mS) (x2 : Int32) (x3 : Int32), wM_takesKnot_l17  Q   n17 σ x2 x3 → ∀ (H : Heap) (locs : List Loc) (ls : Array Slot), mR G o ρ σ H → va_S (mA o ρ) s.heap H locs → lv_has ls 4 [(0, .ref o), (2, .int x2), (3, .int x3)] → W p l e R s m args below meth c H locs 0 0 QQ (F0 m 17 ls []) := by
    intro  n17
    induction n17 with
    | zero => intro σ x2 x3 hw; exact hw.elim
    | succ n17 ih17 =>
      intro σ x2 x3 hw H locs ls hR hS hl
      rw [wM_takesKnot_l17] at hw
      refine lv_iload_n hx hb dX2_takesKnot_17 rfl (lv_at hl 2 rfl) ?_
      refine lv_iconst (v := 1) hx hb dX2_takesKnot_18 (by decide) ?_
      refine lv_icmp_lt (tgt := 51) hx hb dX2_takesKnot_19 (by decide) (fun c_19 => ?_) (fun c_19 => ?_)
      · have hw := hw.1 c_19
        refine lv_aload_n hx hb dX2_takesKnot_51 rfl (lv_at hl 0 rfl) ?_
        refine mg_51 hx hb hts hown hE hR dX2_takesKnot_52 ?_
        refine lv_iconst (v := 1) hx hb dX2_takesKnot_55 (by decide) ?_
        refine lv_iconst (v := 1) hx hb dX2_takesKnot_56 (by decide) ?_
        refine mst_51 hx hb hE hap hR hS (vp_lit (by decide)) dX2_takesKnot_57 (fun σ57 e_σ57 H locs hR hS => ?_)
        have hw := hw σ57 e_σ57
        clear e_σ57
        refine lv_iconst (v := 1) hx hb dX2_takesKnot_58 (by decide) ?_
        refine lv_istore_n (lv' := [(3, .int 1), (0, .ref o), (2, .int x2)]) hx hb dX2_takesKnot_59 rfl hl (by decide) rfl (fun ls hl => ?_)
        obtain ⟨n60, hw⟩ := hw
        exact hL60  n60 σ57 (1 : Int32) hw H locs ls hR hS (lv_sub hl [1, 0] rfl)
      · have hw := hw.2 c_19
        refine lv_aload_n hx hb dX2_takesKnot_22 rfl (lv_at hl 0 rfl) ?_
        refine mg_53 hx hb hts hown hE hR dX2_takesKnot_23 ?_
        refine lv_iload_n hx hb dX2_takesKnot_26 rfl (lv_at hl 2 rfl) ?_
        refine lv_iload_n hx hb dX2_takesKnot_27 rfl (lv_at hl 1 rfl) ?_
        obtain ⟨hi_28, hw⟩ := hw
        refine mst_53 hx hb hE hap hR hS hi_28 dX2_takesKnot_28 (fun σ28 e_σ28 H locs hR hS => ?_)
        have hw := hw σ28 e_σ28
        clear e_σ28
        refine lv_aload_n hx hb dX2_takesKnot_29 rfl (lv_at hl 0 rfl) ?_
        refine mg_54 hx hb hts hown hE hR dX2_takesKnot_30 ?_
        refine lv_iload_n hx hb dX2_takesKnot_33 rfl (lv_at hl 2 rfl) ?_
        refine lv_iconst (v := 1) hx hb dX2_takesKnot_34 (by decide) ?_
        refine lv_isub hx hb dX2_takesKnot_35 ?_
        refine lv_iload_n hx hb dX2_takesKnot_36 rfl (lv_at hl 1 rfl) ?_
        obtain ⟨hi_37, hw⟩ := hw
        refine mst_54 hx hb hE hap hR hS hi_37 dX2_takesKnot_37 (fun σ37 e_σ37 H locs hR hS => ?_)
        have hw := hw σ37 e_σ37
        clear e_σ37
        refine lv_aload_n hx hb dX2_takesKnot_38 rfl (lv_at hl 0 rfl) ?_
        refine mg_26 hx hb hts hown hE hR dX2_takesKnot_39 ?_
        refine lv_iload_n hx hb dX2_takesKnot_42 rfl (lv_at hl 1 rfl) ?_
        obtain ⟨hi_43, hw⟩ := hw
        refine ma_26 hx hb hE hR hi_43 dX2_takesKnot_43 ?_
        refine lv_istore_n (lv' := [(2, .int (mga σ37 26 x2.toNatClampNeg)), (0, .ref o), (3, .int x3)]) hx hb dX2_takesKnot_44 rfl hl (by decide) rfl (fun ls hl => ?_)
        refine lv_iinc (k := 2) (lv' := [(3, .int (x3 + (-1))), (2, .int (mga σ37 26 x2.toNatClampNeg)), (0, .ref o)]) hx hb dX2_takesKnot_45 hl rfl (congrArg (x3 + ·) (by decide : Int32.ofInt (-1) = (-1))) (by decide) rfl (fun ls hl => ?_)
        refine lv_goto (tgt := 17) hx hb dX2_takesKnot_48 (by decide) ?_
        exact ih17 σ37 (mga σ37 26 x2.toNatClampNeg) (x3 + (-1)) hw H locs ls hR hS (lv_sub hl [2, 1, 0] rfl)
  intro H ls hR hS hl
  have hl : lv_has ls 4 [(0, .ref o), (1, .int x1)] := hl
  generalize ([] : List Loc) = locs at hS ⊢
  unfold wM_takesKnot at hw
  refine lv_aload_n hx hb dX2_takesKnot_0 rfl (lv_at hl 0 rfl) ?_
  refine lv_aload_n hx hb dX2_takesKnot_1 rfl (lv_at hl 0 rfl) ?_
  refine mg_24 hx hb hts hown hE hR dX2_takesKnot_2 ?_
  refine lv_iload_n hx hb dX2_takesKnot_5 rfl (lv_at hl 1 rfl) ?_
  obtain ⟨hi_6, hw⟩ := hw
  refine ma_24 hx hb hE hR hi_6 dX2_takesKnot_6 ?_
  refine mp_49 hx hb hts hown hE hap hR hS dX2_takesKnot_7 (fun σ7 e_σ7 H locs hR hS => ?_)
  have hw := hw σ7 e_σ7
  clear e_σ7
  refine lv_iload_n hx hb dX2_takesKnot_10 rfl (lv_at hl 1 rfl) ?_
  refine lv_istore_n (lv' := [(2, .int x1), (0, .ref o), (1, .int x1)]) hx hb dX2_takesKnot_11 rfl hl (by decide) rfl (fun ls hl => ?_)
  refine lv_aload_n hx hb dX2_takesKnot_12 rfl (lv_at hl 1 rfl) ?_
  refine mg_49 hx hb hts hown hE hR dX2_takesKnot_13 ?_
  refine lv_istore_n (lv' := [(3, .int (mgi σ7 49)), (2, .int x1), (0, .ref o), (1, .int x1)]) hx hb dX2_takesKnot_16 rfl hl (by decide) rfl (fun ls hl => ?_)
  obtain ⟨n17, hw⟩ := hw
  exact hL17  n17 σ7 x1 (mgi σ7 49) hw H locs ls hR hS (lv_sub hl [2, 1, 0] rfl)
def wM_laysRow_l2  (Q : mS → Prop)  (x1 : Int32) : Nat → mS → Int32 → Prop
  | 0, _, _ => False
  | n + 1, σ, x2 => (((24 : Int32) ≤ x2 → vp_in (mgi σ 49) 8 ∧ (wM_splits σ (0 : Int32) (9 : Int32) (9 * x1) (mga σ 51 (mgi σ 49).toNatClampNeg) (fun σ53 => Q σ53))) ∧ (¬ (24 : Int32) ≤ x2 → (((9 : Int32) ≤ x2 → True) ∧ (¬ (9 : Int32) ≤ x2 → (vp_in x2 9 ∧ True))) ∧ (∀ y16_0 : Int64, y16_0 = (if (9 : Int32) ≤ x2 then 0 else (mgl σ 19 x2.toNatClampNeg)) → vp_in x2 24 ∧ (∀ σ29 : mS, σ29 = mpl σ 8 x2.toNatClampNeg y16_0 → wM_laysRow_l2  Q  x1 n σ29 (x2 + 1)))))
def wM_laysRow (σ : mS) (x1 : Int32) (Q : mS → Prop) : Prop :=
  (∃ k2 : Nat, wM_laysRow_l2  Q  x1 k2 σ (0 : Int32))
set_option maxHeartbeats 4000000 in
theorem mM_laysRow (l : Launch) (G : mG) (o : Nat) (ρ : Nat → Nat) (hap : mAp o ρ) (σ : mS) (x1 : Int32) (Q : mS → Prop) (hw : wM_laysRow σ x1 Q) : mMetV l G yX2_laysRow (ws_ yX2_laysRow cX2_laysRow 3 none) 2 51 o ρ [.ref o, .int x1] σ Q := by
  refine mo_V plain2 rfl (Nat.le_of_ble_eq_true rfl) ?_
  intro p e s R m args below meth c QQ X hRf hRl hret
  obtain ⟨hx, hb, hml, hown, hts, hE⟩ := id X
  have hL2 : ∀ (x1 : Int32) (n2 : Nat) (σ : mS) (x2 : Int32), wM_laysRow_l2  Q  x1 n2 σ x2 → ∀ (H : Heap) (locs : List Loc) (ls : Array Slot), mR G o ρ σ H → va_S (mA o ρ) s.heap H locs → lv_has ls 3 [(0, .ref o), (1, .int x1), (2, .int x2)] → W p l e R s m args below meth c H locs 0 0 QQ (F0 m 2 ls []) := by
    intro x1 n2
    induction n2 with
    | zero => intro σ x2 hw; exact hw.elim
    | succ n2 ih2 =>
      intro σ x2 hw H locs ls hR hS hl
      rw [wM_laysRow_l2] at hw
      refine lv_iload_n hx hb dX2_laysRow_2 rfl (lv_at hl 2 rfl) ?_
      refine lv_bipush (v := 24) hx hb dX2_laysRow_3 (by decide) ?_
      refine lv_icmp_ge (tgt := 36) hx hb dX2_laysRow_5 (by decide) (fun c_5 => ?_) (fun c_5 => ?_)
      · have hw := hw.1 c_5
        refine lv_aload_n hx hb dX2_laysRow_36 rfl (lv_at hl 0 rfl) ?_
        refine lv_iconst (v := 0) hx hb dX2_laysRow_37 (by decide) ?_
        refine lv_bipush (v := 9) hx hb dX2_laysRow_38 (by decide) ?_
        refine lv_bipush (v := 9) hx hb dX2_laysRow_40 (by decide) ?_
        refine lv_iload_n hx hb dX2_laysRow_42 rfl (lv_at hl 1 rfl) ?_
        refine lv_imul hx hb dX2_laysRow_43 ?_
        refine lv_aload_n hx hb dX2_laysRow_44 rfl (lv_at hl 0 rfl) ?_
        refine mg_51 hx hb hts hown hE hR dX2_laysRow_45 ?_
        refine lv_aload_n hx hb dX2_laysRow_48 rfl (lv_at hl 0 rfl) ?_
        refine mg_49 hx hb hts hown hE hR dX2_laysRow_49 ?_
        obtain ⟨hi_52, hw⟩ := hw
        refine ma_51 hx hb hE hR hi_52 dX2_laysRow_52 ?_
        refine mc_vv (As := [.int (0 : Int32), .int (9 : Int32), .int (9 * x1), .int (mga σ 51 (mgi σ 49).toNatClampNeg)]) (rest := []) X (mM_splits l G o ρ hap σ (0 : Int32) (9 : Int32) (9 * x1) (mga σ 51 (mgi σ 49).toNatClampNeg) _ hw) (lw_V q2301 q2303 qs57 q_ini2 q2304) hd2_splits (mm_le hRf rfl) (mm_le hRl rfl) rfl rfl (Nat.le_of_ble_eq_true rfl) dX2_laysRow_53 hR hS hl.1 (fun σ53 H locs hw hR hS => ?_)
        exact hret _ _ _ _ _ hw hR hS dX2_laysRow_56
      · have hw := hw.2 c_5
        refine lv_aload_n hx hb dX2_laysRow_8 rfl (lv_at hl 0 rfl) ?_
        refine mg_8 hx hb hts hown hE hR dX2_laysRow_9 ?_
        refine lv_iload_n hx hb dX2_laysRow_12 rfl (lv_at hl 2 rfl) ?_
        refine lv_iload_n hx hb dX2_laysRow_13 rfl (lv_at hl 2 rfl) ?_
        refine lv_bipush (v := 9) hx hb dX2_laysRow_14 (by decide) ?_
        obtain ⟨hg, hw⟩ := hw
        have hK16 : ∀ (y16_0 : Int64), y16_0 = (if (9 : Int32) ≤ x2 then 0 else (mgl σ 19 x2.toNatClampNeg)) → ∀ (ls : Array Slot), lv_has ls 3 [(0, .ref o), (1, .int x1), (2, .int x2)] → W p l e R s m args below meth c H locs 0 0 QQ (F0 m 29 ls [.long y16_0, .int x2, .ref (ρ 8)]) := by
          intro y16_0 e_y16_0 ls hl
          have hw := hw y16_0 e_y16_0
          obtain ⟨hi_29, hw⟩ := hw
          refine mst_8 hx hb hE hap hR hS hi_29 dX2_laysRow_29 (fun σ29 e_σ29 H locs hR hS => ?_)
          have hw := hw σ29 e_σ29
          clear e_σ29
          refine lv_iinc (k := 2) (lv' := [(2, .int (x2 + 1)), (0, .ref o), (1, .int x1)]) hx hb dX2_laysRow_30 hl rfl (congrArg (x2 + ·) (by decide : Int32.ofInt 1 = 1)) (by decide) rfl (fun ls hl => ?_)
          refine lv_goto (tgt := 2) hx hb dX2_laysRow_33 (by decide) ?_
          exact ih2 σ29 (x2 + 1) hw H locs ls hR hS (lv_sub hl [1, 2, 0] rfl)
        refine lv_icmp_ge (tgt := 28) hx hb dX2_laysRow_16 (by decide) (fun c_16 => ?_) (fun c_16 => ?_)
        · have hg := hg.1 c_16
          refine lv_lconst (v := 0) hx hb dX2_laysRow_28 (by decide) ?_
          exact hK16 _ (if_pos c_16).symm ls (lv_sub hl [0, 1, 2] rfl)
        · have hg := hg.2 c_16
          refine lv_aload_n hx hb dX2_laysRow_19 rfl (lv_at hl 0 rfl) ?_
          refine mg_19 hx hb hts hown hE hR dX2_laysRow_20 ?_
          refine lv_iload_n hx hb dX2_laysRow_23 rfl (lv_at hl 2 rfl) ?_
          obtain ⟨hi_24, hg⟩ := hg
          refine ma_19 hx hb hE hR hi_24 dX2_laysRow_24 ?_
          refine lv_goto (tgt := 29) hx hb dX2_laysRow_25 (by decide) ?_
          exact hK16 _ (if_neg c_16).symm ls (lv_sub hl [0, 1, 2] rfl)
  intro H ls hR hS hl
  have hl : lv_has ls 3 [(0, .ref o), (1, .int x1)] := hl
  generalize ([] : List Loc) = locs at hS ⊢
  unfold wM_laysRow at hw
  refine lv_iconst (v := 0) hx hb dX2_laysRow_0 (by decide) ?_
  refine lv_istore_n (lv' := [(2, .int 0), (0, .ref o), (1, .int x1)]) hx hb dX2_laysRow_1 rfl hl (by decide) rfl (fun ls hl => ?_)
  obtain ⟨n2, hw⟩ := hw
  exact hL2 x1 n2 σ (0 : Int32) hw H locs ls hR hS (lv_sub hl [1, 2, 0] rfl)
def wM_powerIn_l5  (Q : Int32 → Prop) (σ : mS)  : Nat → Int32 → Int64 → Prop
  | 0, _, _ => False
  | n + 1, x3, x4 => ¬ (mgi σ 0).toInt64 = 0 ∧ ((((x4 - x4 / (mgi σ 0).toInt64 * (mgi σ 0).toInt64) = (0 : Int64) → ¬ (mgi σ 0).toInt64 = 0 ∧ (wM_powerIn_l5  Q σ  n (x3 + 1) (x4 / (mgi σ 0).toInt64))) ∧ (¬ (x4 - x4 / (mgi σ 0).toInt64 * (mgi σ 0).toInt64) = (0 : Int64) → Q x3)))
def wM_powerIn (σ : mS) (x1 : Int64) (Q : Int32 → Prop) : Prop :=
  (∃ k5 : Nat, wM_powerIn_l5  Q σ  k5 (0 : Int32) x1)
set_option maxHeartbeats 4000000 in
theorem mM_powerIn (l : Launch) (G : mG) (o : Nat) (ρ : Nat → Nat) (hap : mAp o ρ) (σ : mS) (x1 : Int64) (Q : Int32 → Prop) (hw : wM_powerIn σ x1 Q) : mMetI l G yX2_powerIn (ws_ yX2_powerIn cX2_powerIn 6 (some .int)) 0 0 o ρ [.ref o, .long x1] σ (fun r τ => σ = τ ∧ Q r) := by
  refine mo_I plain2 rfl (Nat.le_of_ble_eq_true rfl) ?_
  intro p e s R m args below meth c QQ X hRf hRl hret
  obtain ⟨hx, hb, hml, hown, hts, hE⟩ := id X
  have hL5 : ∀ (n5 : Nat) (x3 : Int32) (x4 : Int64), wM_powerIn_l5  Q σ  n5 x3 x4 → ∀ (H : Heap) (locs : List Loc) (ls : Array Slot), mR G o ρ σ H → va_S (mA o ρ) s.heap H locs → lv_has ls 6 [(0, .ref o), (3, .int x3), (4, .long x4)] → W p l e R s m args below meth c H locs 0 0 QQ (F0 m 5 ls []) := by
    intro  n5
    induction n5 with
    | zero => intro x3 x4 hw; exact hw.elim
    | succ n5 ih5 =>
      intro x3 x4 hw H locs ls hR hS hl
      rw [wM_powerIn_l5] at hw
      refine lv_lload hx hb dX2_powerIn_5 (lv_at hl 2 rfl) ?_
      refine lv_aload_n hx hb dX2_powerIn_7 rfl (lv_at hl 0 rfl) ?_
      refine mg_0 hx hb hts hown hE hR dX2_powerIn_8 ?_
      refine lv_i2l hx hb dX2_powerIn_11 rfl ?_
      obtain ⟨hz_12, hw⟩ := hw
      refine lv_lrem hx hb dX2_powerIn_12 hz_12 ?_
      refine lv_lconst (v := 0) hx hb dX2_powerIn_13 (by decide) ?_
      refine mm_lcne (p1 := 15) (tgt := 34) hx hb dX2_powerIn_14 rfl dX2_powerIn_15 (by decide) (fun c_14 => ?_) (fun c_14 => ?_)
      · have hw := hw.2 c_14
        refine lv_iload_n hx hb dX2_powerIn_34 rfl (lv_at hl 1 rfl) ?_
        exact hret _ _ _ _ _ _ ⟨rfl, hw⟩ hR hS dX2_powerIn_35
      · have hw := hw.1 c_14
        refine lv_iinc (k := 1) (lv' := [(3, .int (x3 + 1)), (0, .ref o), (4, .long x4)]) hx hb dX2_powerIn_18 hl rfl (congrArg (x3 + ·) (by decide : Int32.ofInt 1 = 1)) (by decide) rfl (fun ls hl => ?_)
        refine lv_lload hx hb dX2_powerIn_21 (lv_at hl 2 rfl) ?_
        refine lv_aload_n hx hb dX2_powerIn_23 rfl (lv_at hl 1 rfl) ?_
        refine mg_0 hx hb hts hown hE hR dX2_powerIn_24 ?_
        refine lv_i2l hx hb dX2_powerIn_27 rfl ?_
        obtain ⟨hz_28, hw⟩ := hw
        refine lv_ldiv hx hb dX2_powerIn_28 hz_28 ?_
        refine lv_lstore (lv' := [(4, .long (x4 / (mgi σ 0).toInt64)), (3, .int (x3 + 1)), (0, .ref o)]) hx hb dX2_powerIn_29 hl (by decide) rfl (fun ls hl => ?_)
        refine lv_goto (tgt := 5) hx hb dX2_powerIn_31 (by decide) ?_
        exact ih5 (x3 + 1) (x4 / (mgi σ 0).toInt64) hw H locs ls hR hS (lv_sub hl [2, 1, 0] rfl)
  intro H ls hR hS hl
  have hl : lv_has ls 6 [(0, .ref o), (1, .long x1)] := hl
  generalize ([] : List Loc) = locs at hS ⊢
  unfold wM_powerIn at hw
  refine lv_iconst (v := 0) hx hb dX2_powerIn_0 (by decide) ?_
  refine lv_istore_n (lv' := [(3, .int 0), (0, .ref o), (1, .long x1)]) hx hb dX2_powerIn_1 rfl hl (by decide) rfl (fun ls hl => ?_)
  refine lv_lload_n hx hb dX2_powerIn_2 rfl (lv_at hl 2 rfl) ?_
  refine lv_lstore (lv' := [(4, .long x1), (3, .int 0), (0, .ref o), (1, .long x1)]) hx hb dX2_powerIn_3 hl (by decide) rfl (fun ls hl => ?_)
  obtain ⟨n5, hw⟩ := hw
  exact hL5  n5 (0 : Int32) x1 hw H locs ls hR hS (lv_sub hl [2, 1, 0] rfl)
def wM_laysHead_l93  (Q : mS → Prop) (σ : mS)  : Nat → Int64 → Int32 → Prop
  | 0, _, _ => False
  | n + 1, x3, x5 => (((mga σ 55 (0 : Int32).toNatClampNeg) ≤ x5 → wM_residue σ x3 (fun r121 => ∀ σ124 : mS, σ124 = mpi σ 56 r121 → Q σ124)) ∧ (¬ (mga σ 55 (0 : Int32).toNatClampNeg) ≤ x5 → ¬ (mgi σ 0).toInt64 = 0 ∧ (wM_laysHead_l93  Q σ  n (x3 / (mgi σ 0).toInt64) (x5 + 1))))
def wM_laysHead_l46  (Q : mS → Prop)  (x1 : Int32) (x2 : Int32) : Nat → mS → Int32 → Prop
  | 0, _, _ => False
  | n + 1, σ, x3 => (((mgi σ 49) ≤ x3 → vp_in (x1 + x2) 24 ∧ ((∃ k93 : Nat, wM_laysHead_l93  Q σ  k93 (mgl σ 8 (x1 + x2).toNatClampNeg) (0 : Int32)))) ∧ (¬ (mgi σ 49) ≤ x3 → vp_in x3 8 ∧ (¬ (mga σ 51 x3.toNatClampNeg) = 0 ∧ (vp_in x3 8 ∧ (¬ (mga σ 50 x3.toNatClampNeg) = 0 ∧ (vp_in x3 7 ∧ (∀ σ74 : mS, σ74 = mpa σ 55 x3.toNatClampNeg ((x2 / (mga σ 51 x3.toNatClampNeg)) - (x2 / (mga σ 51 x3.toNatClampNeg)) / (mga σ 50 x3.toNatClampNeg) * (mga σ 50 x3.toNatClampNeg)) → wM_laysHead_l46  Q  x1 x2 n σ74 (x3 + 1))))))))
def wM_laysHead_l2  (Q : mS → Prop)  (x1 : Int32) (x2 : Int32) : Nat → mS → Int32 → Prop
  | 0, _, _ => False
  | n + 1, σ, x3 => (((7 : Int32) ≤ x3 → ((0 ≤ x2 → vp_in (x1 + x2) 24 ∧ (wM_powerIn σ (mgl σ 8 (x1 + x2).toNatClampNeg) (fun r40 => ∀ σ43 : mS, σ43 = mpa σ 55 (0 : Int32).toNatClampNeg r40 → (∃ k46 : Nat, wM_laysHead_l46  Q  x1 x2 k46 σ43 (1 : Int32))))) ∧ (¬ 0 ≤ x2 → Q σ))) ∧ (¬ (7 : Int32) ≤ x3 → vp_in x3 7 ∧ (∀ σ14 : mS, σ14 = mpa σ 55 x3.toNatClampNeg 0 → wM_laysHead_l2  Q  x1 x2 n σ14 (x3 + 1))))
def wM_laysHead (σ : mS) (x1 : Int32) (x2 : Int32) (Q : mS → Prop) : Prop :=
  (∃ k2 : Nat, wM_laysHead_l2  Q  x1 x2 k2 σ (0 : Int32))
set_option maxHeartbeats 4000000 in
theorem mM_laysHead (l : Launch) (G : mG) (o : Nat) (ρ : Nat → Nat) (hap : mAp o ρ) (σ : mS) (x1 : Int32) (x2 : Int32) (Q : mS → Prop) (hw : wM_laysHead σ x1 x2 Q) : mMetV l G yX2_laysHead (ws_ yX2_laysHead cX2_laysHead 6 none) 1 25 o ρ [.ref o, .int x1, .int x2] σ Q := by
  refine mo_V plain2 rfl (Nat.le_of_ble_eq_true rfl) ?_
  intro p e s R m args below meth c QQ X hRf hRl hret
  obtain ⟨hx, hb, hml, hown, hts, hE⟩ := id X
  have hL93 : ∀ (σ : mS) (n93 : Nat) (x3 : Int64) (x5 : Int32), wM_laysHead_l93  Q σ  n93 x3 x5 → ∀ (H : Heap) (locs : List Loc) (ls : Array Slot), mR G o ρ σ H → va_S (mA o ρ) s.heap H locs → lv_has ls 6 [(0, .ref o), (3, .long x3), (5, .int x5)] → W p l e R s m args below meth c H locs 0 0 QQ (F0 m 93 ls []) := by
    intro σ n93
    induction n93 with
    | zero => intro x3 x5 hw; exact hw.elim
    | succ n93 ih93 =>
      intro x3 x5 hw H locs ls hR hS hl
      rw [wM_laysHead_l93] at hw
      refine lv_iload hx hb dX2_laysHead_93 (lv_at hl 2 rfl) ?_
      refine lv_aload_n hx hb dX2_laysHead_95 rfl (lv_at hl 0 rfl) ?_
      refine mg_55 hx hb hts hown hE hR dX2_laysHead_96 ?_
      refine lv_iconst (v := 0) hx hb dX2_laysHead_99 (by decide) ?_
      refine ma_55 hx hb hE hR (vp_lit (by decide)) dX2_laysHead_100 ?_
      refine lv_icmp_ge (tgt := 118) hx hb dX2_laysHead_101 (by decide) (fun c_101 => ?_) (fun c_101 => ?_)
      · have hw := hw.1 c_101
        refine lv_aload_n hx hb dX2_laysHead_118 rfl (lv_at hl 0 rfl) ?_
        refine lv_aload_n hx hb dX2_laysHead_119 rfl (lv_at hl 0 rfl) ?_
        refine lv_lload_n hx hb dX2_laysHead_120 rfl (lv_at hl 1 rfl) ?_
        refine mc_vir (As := [.long x3]) (rest := [.ref o]) X (mM_residue l G o ρ hap σ x3 _ hw) (lw_V q2315 q2317 qs59 q_ini2 q2318) hd2_residue (mm_le hRf rfl) (mm_le hRl rfl) rfl rfl (Nat.le_of_ble_eq_true rfl) dX2_laysHead_121 hR hS hl.1 (fun r121 H locs hw hR hS => ?_)
        refine mp_56 hx hb hts hown hE hap hR hS dX2_laysHead_124 (fun σ124 e_σ124 H locs hR hS => ?_)
        have hw := hw σ124 e_σ124
        clear e_σ124
        exact hret _ _ _ _ _ hw hR hS dX2_laysHead_127
      · have hw := hw.2 c_101
        refine lv_lload_n hx hb dX2_laysHead_104 rfl (lv_at hl 1 rfl) ?_
        refine lv_aload_n hx hb dX2_laysHead_105 rfl (lv_at hl 0 rfl) ?_
        refine mg_0 hx hb hts hown hE hR dX2_laysHead_106 ?_
        refine lv_i2l hx hb dX2_laysHead_109 rfl ?_
        obtain ⟨hz_110, hw⟩ := hw
        refine lv_ldiv hx hb dX2_laysHead_110 hz_110 ?_
        refine lv_lstore_n (lv' := [(3, .long (x3 / (mgi σ 0).toInt64)), (0, .ref o), (5, .int x5)]) hx hb dX2_laysHead_111 rfl hl (by decide) rfl (fun ls hl => ?_)
        refine lv_iinc (k := 2) (lv' := [(5, .int (x5 + 1)), (3, .long (x3 / (mgi σ 0).toInt64)), (0, .ref o)]) hx hb dX2_laysHead_112 hl rfl (congrArg (x5 + ·) (by decide : Int32.ofInt 1 = 1)) (by decide) rfl (fun ls hl => ?_)
        refine lv_goto (tgt := 93) hx hb dX2_laysHead_115 (by decide) ?_
        exact ih93 (x3 / (mgi σ 0).toInt64) (x5 + 1) hw H locs ls hR hS (lv_sub hl [2, 1, 0] rfl)
  have hL46 : ∀ (x1 : Int32) (x2 : Int32) (n46 : Nat) (σ : mS) (x3 : Int32), wM_laysHead_l46  Q  x1 x2 n46 σ x3 → ∀ (H : Heap) (locs : List Loc) (ls : Array Slot), mR G o ρ σ H → va_S (mA o ρ) s.heap H locs → lv_has ls 6 [(0, .ref o), (1, .int x1), (2, .int x2), (3, .int x3)] → W p l e R s m args below meth c H locs 0 0 QQ (F0 m 46 ls []) := by
    intro x1 x2 n46
    induction n46 with
    | zero => intro σ x3 hw; exact hw.elim
    | succ n46 ih46 =>
      intro σ x3 hw H locs ls hR hS hl
      rw [wM_laysHead_l46] at hw
      refine lv_iload_n hx hb dX2_laysHead_46 rfl (lv_at hl 3 rfl) ?_
      refine lv_aload_n hx hb dX2_laysHead_47 rfl (lv_at hl 0 rfl) ?_
      refine mg_49 hx hb hts hown hE hR dX2_laysHead_48 ?_
      refine lv_icmp_ge (tgt := 81) hx hb dX2_laysHead_51 (by decide) (fun c_51 => ?_) (fun c_51 => ?_)
      · have hw := hw.1 c_51
        refine lv_aload_n hx hb dX2_laysHead_81 rfl (lv_at hl 0 rfl) ?_
        refine mg_8 hx hb hts hown hE hR dX2_laysHead_82 ?_
        refine lv_iload_n hx hb dX2_laysHead_85 rfl (lv_at hl 1 rfl) ?_
        refine lv_iload_n hx hb dX2_laysHead_86 rfl (lv_at hl 2 rfl) ?_
        refine lv_iadd hx hb dX2_laysHead_87 ?_
        obtain ⟨hi_88, hw⟩ := hw
        refine ma_8 hx hb hE hR hi_88 dX2_laysHead_88 ?_
        refine lv_lstore_n (lv' := [(3, .long (mgl σ 8 (x1 + x2).toNatClampNeg)), (0, .ref o), (1, .int x1), (2, .int x2)]) hx hb dX2_laysHead_89 rfl hl (by decide) rfl (fun ls hl => ?_)
        refine lv_iconst (v := 0) hx hb dX2_laysHead_90 (by decide) ?_
        refine lv_istore (lv' := [(5, .int 0), (3, .long (mgl σ 8 (x1 + x2).toNatClampNeg)), (0, .ref o), (1, .int x1), (2, .int x2)]) hx hb dX2_laysHead_91 hl (by decide) rfl (fun ls hl => ?_)
        obtain ⟨n93, hw⟩ := hw
        exact hL93 σ n93 (mgl σ 8 (x1 + x2).toNatClampNeg) (0 : Int32) hw H locs ls hR hS (lv_sub hl [2, 1, 0] rfl)
      · have hw := hw.2 c_51
        refine lv_aload_n hx hb dX2_laysHead_54 rfl (lv_at hl 0 rfl) ?_
        refine mg_55 hx hb hts hown hE hR dX2_laysHead_55 ?_
        refine lv_iload_n hx hb dX2_laysHead_58 rfl (lv_at hl 3 rfl) ?_
        refine lv_iload_n hx hb dX2_laysHead_59 rfl (lv_at hl 2 rfl) ?_
        refine lv_aload_n hx hb dX2_laysHead_60 rfl (lv_at hl 0 rfl) ?_
        refine mg_51 hx hb hts hown hE hR dX2_laysHead_61 ?_
        refine lv_iload_n hx hb dX2_laysHead_64 rfl (lv_at hl 3 rfl) ?_
        obtain ⟨hi_65, hw⟩ := hw
        refine ma_51 hx hb hE hR hi_65 dX2_laysHead_65 ?_
        obtain ⟨hz_66, hw⟩ := hw
        refine lv_idiv hx hb dX2_laysHead_66 hz_66 ?_
        refine lv_aload_n hx hb dX2_laysHead_67 rfl (lv_at hl 0 rfl) ?_
        refine mg_50 hx hb hts hown hE hR dX2_laysHead_68 ?_
        refine lv_iload_n hx hb dX2_laysHead_71 rfl (lv_at hl 3 rfl) ?_
        obtain ⟨hi_72, hw⟩ := hw
        refine ma_50 hx hb hE hR hi_72 dX2_laysHead_72 ?_
        obtain ⟨hz_73, hw⟩ := hw
        refine lv_irem hx hb dX2_laysHead_73 hz_73 ?_
        obtain ⟨hi_74, hw⟩ := hw
        refine mst_55 hx hb hE hap hR hS hi_74 dX2_laysHead_74 (fun σ74 e_σ74 H locs hR hS => ?_)
        have hw := hw σ74 e_σ74
        clear e_σ74
        refine lv_iinc (k := 3) (lv' := [(3, .int (x3 + 1)), (0, .ref o), (1, .int x1), (2, .int x2)]) hx hb dX2_laysHead_75 hl rfl (congrArg (x3 + ·) (by decide : Int32.ofInt 1 = 1)) (by decide) rfl (fun ls hl => ?_)
        refine lv_goto (tgt := 46) hx hb dX2_laysHead_78 (by decide) ?_
        exact ih46 σ74 (x3 + 1) hw H locs ls hR hS (lv_sub hl [1, 2, 3, 0] rfl)
  have hL2 : ∀ (x1 : Int32) (x2 : Int32) (n2 : Nat) (σ : mS) (x3 : Int32), wM_laysHead_l2  Q  x1 x2 n2 σ x3 → ∀ (H : Heap) (locs : List Loc) (ls : Array Slot), mR G o ρ σ H → va_S (mA o ρ) s.heap H locs → lv_has ls 6 [(0, .ref o), (1, .int x1), (2, .int x2), (3, .int x3)] → W p l e R s m args below meth c H locs 0 0 QQ (F0 m 2 ls []) := by
    intro x1 x2 n2
    induction n2 with
    | zero => intro σ x3 hw; exact hw.elim
    | succ n2 ih2 =>
      intro σ x3 hw H locs ls hR hS hl
      rw [wM_laysHead_l2] at hw
      refine lv_iload_n hx hb dX2_laysHead_2 rfl (lv_at hl 3 rfl) ?_
      refine lv_bipush (v := 7) hx hb dX2_laysHead_3 (by decide) ?_
      refine lv_icmp_ge (tgt := 21) hx hb dX2_laysHead_5 (by decide) (fun c_5 => ?_) (fun c_5 => ?_)
      · have hw := hw.1 c_5
        refine lv_iload_n hx hb dX2_laysHead_21 rfl (lv_at hl 2 rfl) ?_
        refine lv_if_ge (tgt := 26) hx hb dX2_laysHead_22 (by decide) (fun c_22 => ?_) (fun c_22 => ?_)
        · have hw := hw.1 c_22
          refine lv_aload_n hx hb dX2_laysHead_26 rfl (lv_at hl 0 rfl) ?_
          refine mg_55 hx hb hts hown hE hR dX2_laysHead_27 ?_
          refine lv_iconst (v := 0) hx hb dX2_laysHead_30 (by decide) ?_
          refine lv_aload_n hx hb dX2_laysHead_31 rfl (lv_at hl 0 rfl) ?_
          refine lv_aload_n hx hb dX2_laysHead_32 rfl (lv_at hl 0 rfl) ?_
          refine mg_8 hx hb hts hown hE hR dX2_laysHead_33 ?_
          refine lv_iload_n hx hb dX2_laysHead_36 rfl (lv_at hl 1 rfl) ?_
          refine lv_iload_n hx hb dX2_laysHead_37 rfl (lv_at hl 2 rfl) ?_
          refine lv_iadd hx hb dX2_laysHead_38 ?_
          obtain ⟨hi_39, hw⟩ := hw
          refine ma_8 hx hb hE hR hi_39 dX2_laysHead_39 ?_
          refine mc_vir (As := [.long (mgl σ 8 (x1 + x2).toNatClampNeg)]) (rest := [.int 0, .ref (ρ 55)]) X (mM_powerIn l G o ρ hap σ (mgl σ 8 (x1 + x2).toNatClampNeg) _ hw) (lw_V q2391 q2393 qs77 q_ini2 q2394) hd2_powerIn (mm_le hRf rfl) (mm_le hRl rfl) rfl rfl (Nat.le_of_ble_eq_true rfl) dX2_laysHead_40 hR hS hl.1 (fun r40 H locs hw hR hS => ?_)
          refine mst_55 hx hb hE hap hR hS (vp_lit (by decide)) dX2_laysHead_43 (fun σ43 e_σ43 H locs hR hS => ?_)
          have hw := hw σ43 e_σ43
          clear e_σ43
          refine lv_iconst (v := 1) hx hb dX2_laysHead_44 (by decide) ?_
          refine lv_istore_n (lv' := [(3, .int 1), (0, .ref o), (1, .int x1), (2, .int x2)]) hx hb dX2_laysHead_45 rfl hl (by decide) rfl (fun ls hl => ?_)
          obtain ⟨n46, hw⟩ := hw
          exact hL46 x1 x2 n46 σ43 (1 : Int32) hw H locs ls hR hS (lv_sub hl [1, 2, 3, 0] rfl)
        · have hw := hw.2 c_22
          exact hret _ _ _ _ _ hw hR hS dX2_laysHead_25
      · have hw := hw.2 c_5
        refine lv_aload_n hx hb dX2_laysHead_8 rfl (lv_at hl 0 rfl) ?_
        refine mg_55 hx hb hts hown hE hR dX2_laysHead_9 ?_
        refine lv_iload_n hx hb dX2_laysHead_12 rfl (lv_at hl 3 rfl) ?_
        refine lv_iconst (v := 0) hx hb dX2_laysHead_13 (by decide) ?_
        obtain ⟨hi_14, hw⟩ := hw
        refine mst_55 hx hb hE hap hR hS hi_14 dX2_laysHead_14 (fun σ14 e_σ14 H locs hR hS => ?_)
        have hw := hw σ14 e_σ14
        clear e_σ14
        refine lv_iinc (k := 3) (lv' := [(3, .int (x3 + 1)), (0, .ref o), (1, .int x1), (2, .int x2)]) hx hb dX2_laysHead_15 hl rfl (congrArg (x3 + ·) (by decide : Int32.ofInt 1 = 1)) (by decide) rfl (fun ls hl => ?_)
        refine lv_goto (tgt := 2) hx hb dX2_laysHead_18 (by decide) ?_
        exact ih2 σ14 (x3 + 1) hw H locs ls hR hS (lv_sub hl [1, 2, 3, 0] rfl)
  intro H ls hR hS hl
  have hl : lv_has ls 6 [(0, .ref o), (1, .int x1), (2, .int x2)] := hl
  generalize ([] : List Loc) = locs at hS ⊢
  unfold wM_laysHead at hw
  refine lv_iconst (v := 0) hx hb dX2_laysHead_0 (by decide) ?_
  refine lv_istore_n (lv' := [(3, .int 0), (0, .ref o), (1, .int x1), (2, .int x2)]) hx hb dX2_laysHead_1 rfl hl (by decide) rfl (fun ls hl => ?_)
  obtain ⟨n2, hw⟩ := hw
  exact hL2 x1 x2 n2 σ (0 : Int32) hw H locs ls hR hS (lv_sub hl [1, 2, 3, 0] rfl)
def wM_head_l132 (rec92 : Int32 → Int32 → Int32 → Prop) (Q : Int32 → mS → Prop) (σ : mS) (x1 : Int32) (x2 : Int32) (x3 : Int32) (x4 : Int32) (x5 : Int32) : Nat → Int32 → Int32 → Prop
  | 0, _, _ => False
  | n + 1, x6, x7 => (((mgi σ 49) ≤ x7 → ∀ y191_0 : Int32, y191_0 = (if x3 < 0 then x5 else (if x3 ≤ x6 then x4 else x5)) → ∀ y210_0 : Int32, y210_0 = (if x3 < 0 then x6 else (if x3 ≤ x6 then x3 else x6)) → rec92 y210_0 y191_0 (x5 + 1)) ∧ (¬ (mgi σ 49) ≤ x7 → vp_in x7 8 ∧ (¬ (mga σ 51 x7.toNatClampNeg) = 0 ∧ (vp_in x7 8 ∧ (¬ (mga σ 50 x7.toNatClampNeg) = 0 ∧ (vp_in x7 8 ∧ (vp_in (x7 + 1) 8 ∧ (¬ (mga σ 51 (x7 + 1).toNatClampNeg) = 0 ∧ (∀ v182 : Int32, v182 = (x6 + ((((x5 / (mga σ 51 x7.toNatClampNeg)) - (x5 / (mga σ 51 x7.toNatClampNeg)) / (mga σ 50 x7.toNatClampNeg) * (mga σ 50 x7.toNatClampNeg)) * (mga σ 52 x7.toNatClampNeg)) * (x2 / (mga σ 51 (x7 + 1).toNatClampNeg)))) → wM_head_l132 rec92 Q σ x1 x2 x3 x4 x5 n v182 (x7 + 1))))))))))
def wM_head_l92  (Q : Int32 → mS → Prop) (σ : mS) (x1 : Int32) (x2 : Int32) : Nat → Int32 → Int32 → Int32 → Prop
  | 0, _, _, _ => False
  | n + 1, x3, x4, x5 => ((x2 ≤ x5 → wM_laysHead σ x1 x4 (fun σ236 => Q x3 σ236)) ∧ (¬ x2 ≤ x5 → vp_in (x1 + x5) 24 ∧ ((((mgl σ 8 (x1 + x5).toNatClampNeg) = (0 : Int64) → wM_head_l92  Q σ x1 x2 n x3 x4 (x5 + 1)) ∧ (¬ (mgl σ 8 (x1 + x5).toNatClampNeg) = (0 : Int64) → vp_in (x1 + x5) 24 ∧ (wM_powerIn σ (mgl σ 8 (x1 + x5).toNatClampNeg) (fun r123 => (∃ k132 : Nat, wM_head_l132 (fun z3 z4 z5 => wM_head_l92  Q σ x1 x2 n z3 z4 z5) Q σ x1 x2 x3 x4 x5 k132 (x2 * r123) (1 : Int32)))))))))
def wM_head_l25 (rec17 : mS → Int32 → Prop) (Q : Int32 → mS → Prop)  (x1 : Int32) (x2 : Int32) (x3 : Int32) : Nat → mS → Int32 → Prop
  | 0, _, _ => False
  | n + 1, σ, x4 => ((x2 ≤ x4 → rec17 σ (x3 + (-1))) ∧ (¬ x2 ≤ x4 → vp_in (x3 + 1) 8 ∧ (vp_in x3 8 ∧ (vp_in x3 8 ∧ (wM_splits σ (x1 + x4) (mga σ 51 (x3 + 1).toNatClampNeg) (9 * (mga σ 53 x3.toNatClampNeg)) (mga σ 51 x3.toNatClampNeg) (fun σ59 => vp_in (x3 + 1) 8 ∧ (wM_head_l25 rec17 Q  x1 x2 x3 n σ59 (x4 + (mga σ59 51 (x3 + 1).toNatClampNeg)))))))))
def wM_head_l17  (Q : Int32 → mS → Prop)  (x1 : Int32) (x2 : Int32) : Nat → mS → Int32 → Prop
  | 0, _, _ => False
  | n + 1, σ, x3 => ((x3 < (1 : Int32) → (∃ k92 : Nat, wM_head_l92  Q σ x1 x2 k92 ((-1) : Int32) ((-1) : Int32) (0 : Int32))) ∧ (¬ x3 < (1 : Int32) → (∃ k25 : Nat, wM_head_l25 (fun z z3 => wM_head_l17  Q  x1 x2 n z z3) Q  x1 x2 x3 k25 σ (0 : Int32))))
def wM_head (σ : mS) (x1 : Int32) (Q : Int32 → mS → Prop) : Prop :=
  vp_in (mgi σ 49) 8 ∧ ((∃ k17 : Nat, wM_head_l17  Q  x1 (mga σ 51 (mgi σ 49).toNatClampNeg) k17 σ ((mgi σ 49) - 1)))
set_option maxHeartbeats 4000000 in
theorem mM_head (l : Launch) (G : mG) (o : Nat) (ρ : Nat → Nat) (hap : mAp o ρ) (σ : mS) (x1 : Int32) (Q : Int32 → mS → Prop) (hw : wM_head σ x1 Q) : mMetI l G yX2_head (ws_ yX2_head cX2_head 8 (some .int)) 2 51 o ρ [.ref o, .int x1] σ Q := by
  refine mo_I plain2 rfl (Nat.le_of_ble_eq_true rfl) ?_
  intro p e s R m args below meth c QQ X hRf hRl hret
  obtain ⟨hx, hb, hml, hown, hts, hE⟩ := id X
  have hL92 : ∀ (σ : mS) (x1 : Int32) (x2 : Int32) (n92 : Nat) (x3 : Int32) (x4 : Int32) (x5 : Int32), wM_head_l92  Q σ x1 x2 n92 x3 x4 x5 → ∀ (H : Heap) (locs : List Loc) (ls : Array Slot), mR G o ρ σ H → va_S (mA o ρ) s.heap H locs → lv_has ls 8 [(0, .ref o), (1, .int x1), (2, .int x2), (3, .int x3), (4, .int x4), (5, .int x5)] → W p l e R s m args below meth c H locs 0 0 QQ (F0 m 92 ls []) := by
    intro σ x1 x2 n92
    induction n92 with
    | zero => intro x3 x4 x5 hw; exact hw.elim
    | succ n92 ih92 =>
      have hL132 : ∀ (x3 : Int32) (x4 : Int32) (x5 : Int32) (n132 : Nat) (x6 : Int32) (x7 : Int32), wM_head_l132 (wM_head_l92  Q σ x1 x2 n92) Q σ x1 x2 x3 x4 x5 n132 x6 x7 → ∀ (H : Heap) (locs : List Loc) (ls : Array Slot), mR G o ρ σ H → va_S (mA o ρ) s.heap H locs → lv_has ls 8 [(0, .ref o), (1, .int x1), (2, .int x2), (3, .int x3), (4, .int x4), (5, .int x5), (6, .int x6), (7, .int x7)] → W p l e R s m args below meth c H locs 0 0 QQ (F0 m 132 ls []) := by
        intro x3 x4 x5 n132
        induction n132 with
        | zero => intro x6 x7 hw; exact hw.elim
        | succ n132 ih132 =>
          intro x6 x7 hw H locs ls hR hS hl
          rw [wM_head_l132] at hw
          refine lv_iload hx hb dX2_head_132 (lv_at hl 7 rfl) ?_
          refine lv_aload_n hx hb dX2_head_134 rfl (lv_at hl 0 rfl) ?_
          refine mg_49 hx hb hts hown hE hR dX2_head_135 ?_
          refine lv_icmp_ge (tgt := 190) hx hb dX2_head_138 (by decide) (fun c_138 => ?_) (fun c_138 => ?_)
          · have hw := hw.1 c_138
            refine lv_iload_n hx hb dX2_head_190 rfl (lv_at hl 3 rfl) ?_
            have hK191 : ∀ (y191_0 : Int32), y191_0 = (if x3 < 0 then x5 else (if x3 ≤ x6 then x4 else x5)) → ∀ (ls : Array Slot), lv_has ls 8 [(0, .ref o), (1, .int x1), (2, .int x2), (3, .int x3), (5, .int x5), (6, .int x6)] → W p l e R s m args below meth c H locs 0 0 QQ (F0 m 207 ls [.int y191_0]) := by
              intro y191_0 e_y191_0 ls hl
              have hw := hw y191_0 e_y191_0
              refine lv_istore (lv' := [(4, .int y191_0), (0, .ref o), (1, .int x1), (2, .int x2), (3, .int x3), (5, .int x5), (6, .int x6)]) hx hb dX2_head_207 hl (by decide) rfl (fun ls hl => ?_)
              refine lv_iload_n hx hb dX2_head_209 rfl (lv_at hl 4 rfl) ?_
              have hK210 : ∀ (y210_0 : Int32), y210_0 = (if x3 < 0 then x6 else (if x3 ≤ x6 then x3 else x6)) → ∀ (ls : Array Slot), lv_has ls 8 [(0, .ref o), (1, .int x1), (2, .int x2), (4, .int y191_0), (5, .int x5)] → W p l e R s m args below meth c H locs 0 0 QQ (F0 m 225 ls [.int y210_0]) := by
                intro y210_0 e_y210_0 ls hl
                have hw := hw y210_0 e_y210_0
                refine lv_istore_n (lv' := [(3, .int y210_0), (0, .ref o), (1, .int x1), (2, .int x2), (4, .int y191_0), (5, .int x5)]) hx hb dX2_head_225 rfl hl (by decide) rfl (fun ls hl => ?_)
                refine lv_iinc (k := 5) (lv' := [(5, .int (x5 + 1)), (3, .int y210_0), (0, .ref o), (1, .int x1), (2, .int x2), (4, .int y191_0)]) hx hb dX2_head_226 hl rfl (congrArg (x5 + ·) (by decide : Int32.ofInt 1 = 1)) (by decide) rfl (fun ls hl => ?_)
                refine lv_goto (tgt := 92) hx hb dX2_head_229 (by decide) ?_
                exact ih92 y210_0 y191_0 (x5 + 1) hw H locs ls hR hS (lv_sub hl [2, 3, 4, 1, 5, 0] rfl)
              refine lv_if_lt (tgt := 219) hx hb dX2_head_210 (by decide) (fun c_210 => ?_) (fun c_210 => ?_)
              · refine lv_iload hx hb dX2_head_219 (lv_at hl 6 rfl) ?_
                refine lv_goto (tgt := 225) hx hb dX2_head_221 (by decide) ?_
                exact hK210 _ (if_pos c_210).symm ls (lv_sub hl [1, 2, 3, 0, 5] rfl)
              · refine lv_iload hx hb dX2_head_213 (lv_at hl 6 rfl) ?_
                refine lv_iload_n hx hb dX2_head_215 rfl (lv_at hl 4 rfl) ?_
                refine lv_icmp_ge (tgt := 224) hx hb dX2_head_216 (by decide) (fun c_216 => ?_) (fun c_216 => ?_)
                · refine lv_iload_n hx hb dX2_head_224 rfl (lv_at hl 4 rfl) ?_
                  exact hK210 _ ((if_pos c_216).symm.trans (if_neg c_210).symm) ls (lv_sub hl [1, 2, 3, 0, 5] rfl)
                · refine lv_iload hx hb dX2_head_219 (lv_at hl 6 rfl) ?_
                  refine lv_goto (tgt := 225) hx hb dX2_head_221 (by decide) ?_
                  exact hK210 _ ((if_neg c_216).symm.trans (if_neg c_210).symm) ls (lv_sub hl [1, 2, 3, 0, 5] rfl)
            refine lv_if_lt (tgt := 200) hx hb dX2_head_191 (by decide) (fun c_191 => ?_) (fun c_191 => ?_)
            · refine lv_iload hx hb dX2_head_200 (lv_at hl 5 rfl) ?_
              refine lv_goto (tgt := 207) hx hb dX2_head_202 (by decide) ?_
              exact hK191 _ (if_pos c_191).symm ls (lv_sub hl [0, 1, 2, 3, 5, 6] rfl)
            · refine lv_iload hx hb dX2_head_194 (lv_at hl 6 rfl) ?_
              refine lv_iload_n hx hb dX2_head_196 rfl (lv_at hl 3 rfl) ?_
              refine lv_icmp_ge (tgt := 205) hx hb dX2_head_197 (by decide) (fun c_197 => ?_) (fun c_197 => ?_)
              · refine lv_iload hx hb dX2_head_205 (lv_at hl 4 rfl) ?_
                exact hK191 _ ((if_pos c_197).symm.trans (if_neg c_191).symm) ls (lv_sub hl [0, 1, 2, 3, 5, 6] rfl)
              · refine lv_iload hx hb dX2_head_200 (lv_at hl 5 rfl) ?_
                refine lv_goto (tgt := 207) hx hb dX2_head_202 (by decide) ?_
                exact hK191 _ ((if_neg c_197).symm.trans (if_neg c_191).symm) ls (lv_sub hl [0, 1, 2, 3, 5, 6] rfl)
          · have hw := hw.2 c_138
            refine lv_iload hx hb dX2_head_141 (lv_at hl 6 rfl) ?_
            refine lv_iload hx hb dX2_head_143 (lv_at hl 5 rfl) ?_
            refine lv_aload_n hx hb dX2_head_145 rfl (lv_at hl 0 rfl) ?_
            refine mg_51 hx hb hts hown hE hR dX2_head_146 ?_
            refine lv_iload hx hb dX2_head_149 (lv_at hl 7 rfl) ?_
            obtain ⟨hi_151, hw⟩ := hw
            refine ma_51 hx hb hE hR hi_151 dX2_head_151 ?_
            obtain ⟨hz_152, hw⟩ := hw
            refine lv_idiv hx hb dX2_head_152 hz_152 ?_
            refine lv_aload_n hx hb dX2_head_153 rfl (lv_at hl 0 rfl) ?_
            refine mg_50 hx hb hts hown hE hR dX2_head_154 ?_
            refine lv_iload hx hb dX2_head_157 (lv_at hl 7 rfl) ?_
            obtain ⟨hi_159, hw⟩ := hw
            refine ma_50 hx hb hE hR hi_159 dX2_head_159 ?_
            obtain ⟨hz_160, hw⟩ := hw
            refine lv_irem hx hb dX2_head_160 hz_160 ?_
            refine lv_aload_n hx hb dX2_head_161 rfl (lv_at hl 0 rfl) ?_
            refine mg_52 hx hb hts hown hE hR dX2_head_162 ?_
            refine lv_iload hx hb dX2_head_165 (lv_at hl 7 rfl) ?_
            obtain ⟨hi_167, hw⟩ := hw
            refine ma_52 hx hb hE hR hi_167 dX2_head_167 ?_
            refine lv_imul hx hb dX2_head_168 ?_
            refine lv_iload_n hx hb dX2_head_169 rfl (lv_at hl 2 rfl) ?_
            refine lv_aload_n hx hb dX2_head_170 rfl (lv_at hl 0 rfl) ?_
            refine mg_51 hx hb hts hown hE hR dX2_head_171 ?_
            refine lv_iload hx hb dX2_head_174 (lv_at hl 7 rfl) ?_
            refine lv_iconst (v := 1) hx hb dX2_head_176 (by decide) ?_
            refine lv_iadd hx hb dX2_head_177 ?_
            obtain ⟨hi_178, hw⟩ := hw
            refine ma_51 hx hb hE hR hi_178 dX2_head_178 ?_
            obtain ⟨hz_179, hw⟩ := hw
            refine lv_idiv hx hb dX2_head_179 hz_179 ?_
            refine lv_imul hx hb dX2_head_180 ?_
            refine lv_iadd hx hb dX2_head_181 ?_
            refine lv_topi (fun v182 e_v182 => ?_)
            have hw := hw v182 e_v182
            refine lv_istore (lv' := [(6, .int v182), (0, .ref o), (1, .int x1), (2, .int x2), (3, .int x3), (4, .int x4), (5, .int x5), (7, .int x7)]) hx hb dX2_head_182 hl (by decide) rfl (fun ls hl => ?_)
            refine lv_iinc (k := 7) (lv' := [(7, .int (x7 + 1)), (6, .int v182), (0, .ref o), (1, .int x1), (2, .int x2), (3, .int x3), (4, .int x4), (5, .int x5)]) hx hb dX2_head_184 hl rfl (congrArg (x7 + ·) (by decide : Int32.ofInt 1 = 1)) (by decide) rfl (fun ls hl => ?_)
            refine lv_goto (tgt := 132) hx hb dX2_head_187 (by decide) ?_
            exact ih132 v182 (x7 + 1) hw H locs ls hR hS (lv_sub hl [2, 3, 4, 5, 6, 7, 1, 0] rfl)
      intro x3 x4 x5 hw H locs ls hR hS hl
      rw [wM_head_l92] at hw
      refine lv_iload hx hb dX2_head_92 (lv_at hl 5 rfl) ?_
      refine lv_iload_n hx hb dX2_head_94 rfl (lv_at hl 2 rfl) ?_
      refine lv_icmp_ge (tgt := 232) hx hb dX2_head_95 (by decide) (fun c_95 => ?_) (fun c_95 => ?_)
      · have hw := hw.1 c_95
        refine lv_aload_n hx hb dX2_head_232 rfl (lv_at hl 0 rfl) ?_
        refine lv_iload_n hx hb dX2_head_233 rfl (lv_at hl 1 rfl) ?_
        refine lv_iload hx hb dX2_head_234 (lv_at hl 4 rfl) ?_
        refine mc_vv (As := [.int x1, .int x4]) (rest := []) X (mM_laysHead l G o ρ hap σ x1 x4 _ hw) (lw_V q2395 q2397 qs78 q_ini2 q2398) hd2_laysHead (mm_le hRf rfl) (mm_le hRl rfl) rfl rfl (Nat.le_of_ble_eq_true rfl) dX2_head_236 hR hS hl.1 (fun σ236 H locs hw hR hS => ?_)
        refine lv_iload_n hx hb dX2_head_239 rfl (lv_at hl 3 rfl) ?_
        exact hret _ _ _ _ _ _ hw hR hS dX2_head_240
      · have hw := hw.2 c_95
        refine lv_aload_n hx hb dX2_head_98 rfl (lv_at hl 0 rfl) ?_
        refine mg_8 hx hb hts hown hE hR dX2_head_99 ?_
        refine lv_iload_n hx hb dX2_head_102 rfl (lv_at hl 1 rfl) ?_
        refine lv_iload hx hb dX2_head_103 (lv_at hl 5 rfl) ?_
        refine lv_iadd hx hb dX2_head_105 ?_
        obtain ⟨hi_106, hw⟩ := hw
        refine ma_8 hx hb hE hR hi_106 dX2_head_106 ?_
        refine lv_lconst (v := 0) hx hb dX2_head_107 (by decide) ?_
        refine mm_lceq (p1 := 109) (tgt := 226) hx hb dX2_head_108 rfl dX2_head_109 (by decide) (fun c_108 => ?_) (fun c_108 => ?_)
        · have hw := hw.1 c_108
          refine lv_iinc (k := 5) (lv' := [(5, .int (x5 + 1)), (0, .ref o), (1, .int x1), (2, .int x2), (3, .int x3), (4, .int x4)]) hx hb dX2_head_226 hl rfl (congrArg (x5 + ·) (by decide : Int32.ofInt 1 = 1)) (by decide) rfl (fun ls hl => ?_)
          refine lv_goto (tgt := 92) hx hb dX2_head_229 (by decide) ?_
          exact ih92 x3 x4 (x5 + 1) hw H locs ls hR hS (lv_sub hl [1, 2, 3, 4, 5, 0] rfl)
        · have hw := hw.2 c_108
          refine lv_iload_n hx hb dX2_head_112 rfl (lv_at hl 2 rfl) ?_
          refine lv_aload_n hx hb dX2_head_113 rfl (lv_at hl 0 rfl) ?_
          refine lv_aload_n hx hb dX2_head_114 rfl (lv_at hl 0 rfl) ?_
          refine mg_8 hx hb hts hown hE hR dX2_head_115 ?_
          refine lv_iload_n hx hb dX2_head_118 rfl (lv_at hl 1 rfl) ?_
          refine lv_iload hx hb dX2_head_119 (lv_at hl 5 rfl) ?_
          refine lv_iadd hx hb dX2_head_121 ?_
          obtain ⟨hi_122, hw⟩ := hw
          refine ma_8 hx hb hE hR hi_122 dX2_head_122 ?_
          refine mc_vir (As := [.long (mgl σ 8 (x1 + x5).toNatClampNeg)]) (rest := [.int x2]) X (mM_powerIn l G o ρ hap σ (mgl σ 8 (x1 + x5).toNatClampNeg) _ hw) (lw_V q2391 q2393 qs77 q_ini2 q2394) hd2_powerIn (mm_le hRf rfl) (mm_le hRl rfl) rfl rfl (Nat.le_of_ble_eq_true rfl) dX2_head_123 hR hS hl.1 (fun r123 H locs hw hR hS => ?_)
          refine lv_imul hx hb dX2_head_126 ?_
          refine lv_istore (lv' := [(6, .int (x2 * r123)), (0, .ref o), (1, .int x1), (2, .int x2), (3, .int x3), (4, .int x4), (5, .int x5)]) hx hb dX2_head_127 hl (by decide) rfl (fun ls hl => ?_)
          refine lv_iconst (v := 1) hx hb dX2_head_129 (by decide) ?_
          refine lv_istore (lv' := [(7, .int 1), (6, .int (x2 * r123)), (0, .ref o), (1, .int x1), (2, .int x2), (3, .int x3), (4, .int x4), (5, .int x5)]) hx hb dX2_head_130 hl (by decide) rfl (fun ls hl => ?_)
          obtain ⟨n132, hw⟩ := hw
          exact hL132 x3 x4 x5 n132 (x2 * r123) (1 : Int32) hw H locs ls hR hS (lv_sub hl [2, 3, 4, 5, 6, 7, 1, 0] rfl)
  have hL17 : ∀ (x1 : Int32) (x2 : Int32) (n17 : Nat) (σ : mS) (x3 : Int32), wM_head_l17  Q  x1 x2 n17 σ x3 → ∀ (H : Heap) (locs : List Loc) (ls : Array Slot), mR G o ρ σ H → va_S (mA o ρ) s.heap H locs → lv_has ls 8 [(0, .ref o), (1, .int x1), (2, .int x2), (3, .int x3)] → W p l e R s m args below meth c H locs 0 0 QQ (F0 m 17 ls []) := by
    intro x1 x2 n17
    induction n17 with
    | zero => intro σ x3 hw; exact hw.elim
    | succ n17 ih17 =>
      have hL25 : ∀ (x3 : Int32) (n25 : Nat) (σ : mS) (x4 : Int32), wM_head_l25 (wM_head_l17  Q  x1 x2 n17) Q  x1 x2 x3 n25 σ x4 → ∀ (H : Heap) (locs : List Loc) (ls : Array Slot), mR G o ρ σ H → va_S (mA o ρ) s.heap H locs → lv_has ls 8 [(0, .ref o), (1, .int x1), (2, .int x2), (3, .int x3), (4, .int x4)] → W p l e R s m args below meth c H locs 0 0 QQ (F0 m 25 ls []) := by
        intro x3 n25
        induction n25 with
        | zero => intro σ x4 hw; exact hw.elim
        | succ n25 ih25 =>
          intro σ x4 hw H locs ls hR hS hl
          rw [wM_head_l25] at hw
          refine lv_iload hx hb dX2_head_25 (lv_at hl 4 rfl) ?_
          refine lv_iload_n hx hb dX2_head_27 rfl (lv_at hl 2 rfl) ?_
          refine lv_icmp_ge (tgt := 78) hx hb dX2_head_28 (by decide) (fun c_28 => ?_) (fun c_28 => ?_)
          · have hw := hw.1 c_28
            refine lv_iinc (k := 3) (lv' := [(3, .int (x3 + (-1))), (0, .ref o), (1, .int x1), (2, .int x2), (4, .int x4)]) hx hb dX2_head_78 hl rfl (congrArg (x3 + ·) (by decide : Int32.ofInt (-1) = (-1))) (by decide) rfl (fun ls hl => ?_)
            refine lv_goto (tgt := 17) hx hb dX2_head_81 (by decide) ?_
            exact ih17 σ (x3 + (-1)) hw H locs ls hR hS (lv_sub hl [1, 2, 3, 0] rfl)
          · have hw := hw.2 c_28
            refine lv_aload_n hx hb dX2_head_31 rfl (lv_at hl 0 rfl) ?_
            refine lv_iload_n hx hb dX2_head_32 rfl (lv_at hl 1 rfl) ?_
            refine lv_iload hx hb dX2_head_33 (lv_at hl 4 rfl) ?_
            refine lv_iadd hx hb dX2_head_35 ?_
            refine lv_aload_n hx hb dX2_head_36 rfl (lv_at hl 0 rfl) ?_
            refine mg_51 hx hb hts hown hE hR dX2_head_37 ?_
            refine lv_iload_n hx hb dX2_head_40 rfl (lv_at hl 3 rfl) ?_
            refine lv_iconst (v := 1) hx hb dX2_head_41 (by decide) ?_
            refine lv_iadd hx hb dX2_head_42 ?_
            obtain ⟨hi_43, hw⟩ := hw
            refine ma_51 hx hb hE hR hi_43 dX2_head_43 ?_
            refine lv_bipush (v := 9) hx hb dX2_head_44 (by decide) ?_
            refine lv_aload_n hx hb dX2_head_46 rfl (lv_at hl 0 rfl) ?_
            refine mg_53 hx hb hts hown hE hR dX2_head_47 ?_
            refine lv_iload_n hx hb dX2_head_50 rfl (lv_at hl 3 rfl) ?_
            obtain ⟨hi_51, hw⟩ := hw
            refine ma_53 hx hb hE hR hi_51 dX2_head_51 ?_
            refine lv_imul hx hb dX2_head_52 ?_
            refine lv_aload_n hx hb dX2_head_53 rfl (lv_at hl 0 rfl) ?_
            refine mg_51 hx hb hts hown hE hR dX2_head_54 ?_
            refine lv_iload_n hx hb dX2_head_57 rfl (lv_at hl 3 rfl) ?_
            obtain ⟨hi_58, hw⟩ := hw
            refine ma_51 hx hb hE hR hi_58 dX2_head_58 ?_
            refine mc_vv (As := [.int (x1 + x4), .int (mga σ 51 (x3 + 1).toNatClampNeg), .int (9 * (mga σ 53 x3.toNatClampNeg)), .int (mga σ 51 x3.toNatClampNeg)]) (rest := []) X (mM_splits l G o ρ hap σ (x1 + x4) (mga σ 51 (x3 + 1).toNatClampNeg) (9 * (mga σ 53 x3.toNatClampNeg)) (mga σ 51 x3.toNatClampNeg) _ hw) (lw_V q2301 q2303 qs57 q_ini2 q2304) hd2_splits (mm_le hRf rfl) (mm_le hRl rfl) rfl rfl (Nat.le_of_ble_eq_true rfl) dX2_head_59 hR hS hl.1 (fun σ59 H locs hw hR hS => ?_)
            refine lv_iload hx hb dX2_head_62 (lv_at hl 4 rfl) ?_
            refine lv_aload_n hx hb dX2_head_64 rfl (lv_at hl 0 rfl) ?_
            refine mg_51 hx hb hts hown hE hR dX2_head_65 ?_
            refine lv_iload_n hx hb dX2_head_68 rfl (lv_at hl 3 rfl) ?_
            refine lv_iconst (v := 1) hx hb dX2_head_69 (by decide) ?_
            refine lv_iadd hx hb dX2_head_70 ?_
            obtain ⟨hi_71, hw⟩ := hw
            refine ma_51 hx hb hE hR hi_71 dX2_head_71 ?_
            refine lv_iadd hx hb dX2_head_72 ?_
            refine lv_istore (lv' := [(4, .int (x4 + (mga σ59 51 (x3 + 1).toNatClampNeg))), (0, .ref o), (1, .int x1), (2, .int x2), (3, .int x3)]) hx hb dX2_head_73 hl (by decide) rfl (fun ls hl => ?_)
            refine lv_goto (tgt := 25) hx hb dX2_head_75 (by decide) ?_
            exact ih25 σ59 (x4 + (mga σ59 51 (x3 + 1).toNatClampNeg)) hw H locs ls hR hS (lv_sub hl [1, 2, 3, 4, 0] rfl)
      intro σ x3 hw H locs ls hR hS hl
      rw [wM_head_l17] at hw
      refine lv_iload_n hx hb dX2_head_17 rfl (lv_at hl 3 rfl) ?_
      refine lv_iconst (v := 1) hx hb dX2_head_18 (by decide) ?_
      refine lv_icmp_lt (tgt := 84) hx hb dX2_head_19 (by decide) (fun c_19 => ?_) (fun c_19 => ?_)
      · have hw := hw.1 c_19
        refine lv_iconst (v := (-1)) hx hb dX2_head_84 (by decide) ?_
        refine lv_istore_n (lv' := [(3, .int (-1)), (0, .ref o), (1, .int x1), (2, .int x2)]) hx hb dX2_head_85 rfl hl (by decide) rfl (fun ls hl => ?_)
        refine lv_iconst (v := (-1)) hx hb dX2_head_86 (by decide) ?_
        refine lv_istore (lv' := [(4, .int (-1)), (3, .int (-1)), (0, .ref o), (1, .int x1), (2, .int x2)]) hx hb dX2_head_87 hl (by decide) rfl (fun ls hl => ?_)
        refine lv_iconst (v := 0) hx hb dX2_head_89 (by decide) ?_
        refine lv_istore (lv' := [(5, .int 0), (4, .int (-1)), (3, .int (-1)), (0, .ref o), (1, .int x1), (2, .int x2)]) hx hb dX2_head_90 hl (by decide) rfl (fun ls hl => ?_)
        obtain ⟨n92, hw⟩ := hw
        exact hL92 σ x1 x2 n92 ((-1) : Int32) ((-1) : Int32) (0 : Int32) hw H locs ls hR hS (lv_sub hl [3, 4, 5, 2, 1, 0] rfl)
      · have hw := hw.2 c_19
        refine lv_iconst (v := 0) hx hb dX2_head_22 (by decide) ?_
        refine lv_istore (lv' := [(4, .int 0), (0, .ref o), (1, .int x1), (2, .int x2), (3, .int x3)]) hx hb dX2_head_23 hl (by decide) rfl (fun ls hl => ?_)
        obtain ⟨n25, hw⟩ := hw
        exact hL25 x3 n25 σ (0 : Int32) hw H locs ls hR hS (lv_sub hl [1, 2, 3, 4, 0] rfl)
  intro H ls hR hS hl
  have hl : lv_has ls 8 [(0, .ref o), (1, .int x1)] := hl
  generalize ([] : List Loc) = locs at hS ⊢
  unfold wM_head at hw
  refine lv_aload_n hx hb dX2_head_0 rfl (lv_at hl 0 rfl) ?_
  refine mg_51 hx hb hts hown hE hR dX2_head_1 ?_
  refine lv_aload_n hx hb dX2_head_4 rfl (lv_at hl 0 rfl) ?_
  refine mg_49 hx hb hts hown hE hR dX2_head_5 ?_
  obtain ⟨hi_8, hw⟩ := hw
  refine ma_51 hx hb hE hR hi_8 dX2_head_8 ?_
  refine lv_istore_n (lv' := [(2, .int (mga σ 51 (mgi σ 49).toNatClampNeg)), (0, .ref o), (1, .int x1)]) hx hb dX2_head_9 rfl hl (by decide) rfl (fun ls hl => ?_)
  refine lv_aload_n hx hb dX2_head_10 rfl (lv_at hl 1 rfl) ?_
  refine mg_49 hx hb hts hown hE hR dX2_head_11 ?_
  refine lv_iconst (v := 1) hx hb dX2_head_14 (by decide) ?_
  refine lv_isub hx hb dX2_head_15 ?_
  refine lv_istore_n (lv' := [(3, .int ((mgi σ 49) - 1)), (2, .int (mga σ 51 (mgi σ 49).toNatClampNeg)), (0, .ref o), (1, .int x1)]) hx hb dX2_head_16 rfl hl (by decide) rfl (fun ls hl => ?_)
  obtain ⟨n17, hw⟩ := hw
  exact hL17 x1 (mga σ 51 (mgi σ 49).toNatClampNeg) n17 σ ((mgi σ 49) - 1) hw H locs ls hR hS (lv_sub hl [2, 3, 1, 0] rfl)
def wM_lift (σ : mS)  (Q : Int32 → Prop) : Prop :=
  (((mgi σ 49) = (1 : Int32) → True) ∧ (¬ (mgi σ 49) = (1 : Int32) → (vp_in ((mgi σ 49) - 1) 8 ∧ (vp_in ((mgi σ 49) - 1) 8 ∧ True)))) ∧ (∀ y5_0 : Int32, y5_0 = (if (mgi σ 49) = (1 : Int32) then 0 else ((mga σ 50 ((mgi σ 49) - 1).toNatClampNeg) * (mga σ 52 ((mgi σ 49) - 1).toNatClampNeg))) → Q y5_0)
set_option maxHeartbeats 4000000 in
theorem mM_lift (l : Launch) (G : mG) (o : Nat) (ρ : Nat → Nat) (hap : mAp o ρ) (σ : mS)  (Q : Int32 → Prop) (hw : wM_lift σ  Q) : mMetI l G yX2_lift (ws_ yX2_lift cX2_lift 1 (some .int)) 0 0 o ρ [.ref o] σ (fun r τ => σ = τ ∧ Q r) := by
  refine mo_I plain2 rfl (Nat.le_of_ble_eq_true rfl) ?_
  intro p e s R m args below meth c QQ X hRf hRl hret
  obtain ⟨hx, hb, hml, hown, hts, hE⟩ := id X
  intro H ls hR hS hl
  have hl : lv_has ls 1 [(0, .ref o)] := hl
  generalize ([] : List Loc) = locs at hS ⊢
  unfold wM_lift at hw
  refine lv_aload_n hx hb dX2_lift_0 rfl (lv_at hl 0 rfl) ?_
  refine mg_49 hx hb hts hown hE hR dX2_lift_1 ?_
  refine lv_iconst (v := 1) hx hb dX2_lift_4 (by decide) ?_
  obtain ⟨hg, hw⟩ := hw
  have hK5 : ∀ (y5_0 : Int32), y5_0 = (if (mgi σ 49) = (1 : Int32) then 0 else ((mga σ 50 ((mgi σ 49) - 1).toNatClampNeg) * (mga σ 52 ((mgi σ 49) - 1).toNatClampNeg))) → ∀ (ls : Array Slot), lv_has ls 1 [] → W p l e R s m args below meth c H locs 0 0 QQ (F0 m 35 ls [.int y5_0]) := by
    intro y5_0 e_y5_0 ls hl
    have hw := hw y5_0 e_y5_0
    exact hret _ _ _ _ _ _ ⟨rfl, hw⟩ hR hS dX2_lift_35
  refine lv_icmp_ne (tgt := 12) hx hb dX2_lift_5 (by decide) (fun c_5 => ?_) (fun c_5 => ?_)
  · have hg := hg.2 c_5
    refine lv_aload_n hx hb dX2_lift_12 rfl (lv_at hl 0 rfl) ?_
    refine mg_50 hx hb hts hown hE hR dX2_lift_13 ?_
    refine lv_aload_n hx hb dX2_lift_16 rfl (lv_at hl 0 rfl) ?_
    refine mg_49 hx hb hts hown hE hR dX2_lift_17 ?_
    refine lv_iconst (v := 1) hx hb dX2_lift_20 (by decide) ?_
    refine lv_isub hx hb dX2_lift_21 ?_
    obtain ⟨hi_22, hg⟩ := hg
    refine ma_50 hx hb hE hR hi_22 dX2_lift_22 ?_
    refine lv_aload_n hx hb dX2_lift_23 rfl (lv_at hl 0 rfl) ?_
    refine mg_52 hx hb hts hown hE hR dX2_lift_24 ?_
    refine lv_aload_n hx hb dX2_lift_27 rfl (lv_at hl 0 rfl) ?_
    refine mg_49 hx hb hts hown hE hR dX2_lift_28 ?_
    refine lv_iconst (v := 1) hx hb dX2_lift_31 (by decide) ?_
    refine lv_isub hx hb dX2_lift_32 ?_
    obtain ⟨hi_33, hg⟩ := hg
    refine ma_52 hx hb hE hR hi_33 dX2_lift_33 ?_
    refine lv_imul hx hb dX2_lift_34 ?_
    exact hK5 _ (if_neg c_5).symm ls (lv_sub hl [] rfl)
  · have hg := hg.1 c_5
    refine lv_iconst (v := 0) hx hb dX2_lift_8 (by decide) ?_
    refine lv_goto (tgt := 35) hx hb dX2_lift_9 (by decide) ?_
    exact hK5 _ (if_pos c_5).symm ls (lv_sub hl [] rfl)
def wM_laysPoints_l108  (Q : mS → Prop)  (x1 : Int32) : Nat → mS → Int32 → Prop
  | 0, _, _ => False
  | n + 1, σ, x3 => ((x3 < 0 → Q σ) ∧ (¬ x3 < 0 → vp_in ((9 * x1) + x3) 360 ∧ ((((mga σ 31 ((9 * x1) + x3).toNatClampNeg) < 0 → (vp_in x1 40 ∧ True)) ∧ (¬ (mga σ 31 ((9 * x1) + x3).toNatClampNeg) < 0 → True)) ∧ (∀ y128_0 : Int32, y128_0 = (if (mga σ 31 ((9 * x1) + x3).toNatClampNeg) < 0 then (mga σ 29 x1.toNatClampNeg) else x3) → vp_in x1 40 ∧ (∀ σ141 : mS, σ141 = mpa σ 29 x1.toNatClampNeg y128_0 → wM_laysPoints_l108  Q  x1 n σ141 (x3 + (-1)))))))
def wM_laysPoints_j94 (rec29 : mS → Int32 → Prop) (Q : mS → Prop) (σ : mS) (x1 : Int32) (x2 : Int32) (x3 : Int32) (s0 : Int32) (s1 : Int32) : Prop :=
  vp_in s1 360 ∧ (∀ σ94 : mS, σ94 = mpa σ 31 s1.toNatClampNeg s0 → rec29 σ94 (x3 + 1))
def wM_laysPoints_j64 (rec29 : mS → Int32 → Prop) (Q : mS → Prop) (σ : mS) (x1 : Int32) (x2 : Int32) (x3 : Int32) (s0 : Int32) : Prop :=
  ((0 ≤ s0 → wM_lift σ  (fun r89 => (wM_laysPoints_j94 rec29 Q σ x1 x2 x3 (s0 + (x3 * r89)) ((9 * x1) + x3)))) ∧ (¬ 0 ≤ s0 → (wM_laysPoints_j94 rec29 Q σ x1 x2 x3 ((-1) : Int32) ((9 * x1) + x3))))
def wM_laysPoints_j63 (rec29 : mS → Int32 → Prop) (Q : mS → Prop) (σ : mS) (x1 : Int32) (x2 : Int32) (x3 : Int32)  : Prop :=
  (wM_laysPoints_j64 rec29 Q σ x1 x2 x3 ((-1) : Int32))
def wM_laysPoints_l29  (Q : mS → Prop)  (x1 : Int32) (x2 : Int32) : Nat → mS → Int32 → Prop
  | 0, _, _ => False
  | n + 1, σ, x3 => (((9 : Int32) ≤ x3 → vp_in x1 40 ∧ ((∃ k108 : Nat, wM_laysPoints_l108  Q  x1 k108 σ (mga σ 25 x1.toNatClampNeg)))) ∧ (¬ (9 : Int32) ≤ x3 → vp_in x1 40 ∧ ((((mga σ 25 x1.toNatClampNeg) < x3 → (wM_laysPoints_j63 (fun z z3 => wM_laysPoints_l29  Q  x1 x2 n z z3) Q σ x1 x2 x3)) ∧ (¬ (mga σ 25 x1.toNatClampNeg) < x3 → (((9 : Int32) ≤ (x3 * x2) → (wM_laysPoints_j63 (fun z z3 => wM_laysPoints_l29  Q  x1 x2 n z z3) Q σ x1 x2 x3)) ∧ (¬ (9 : Int32) ≤ (x3 * x2) → wM_head σ (x3 * x2) (fun r57 σ57 => (wM_laysPoints_j64 (fun z z3 => wM_laysPoints_l29  Q  x1 x2 n z z3) Q σ57 x1 x2 x3 r57)))))))))
def wM_laysPoints (σ : mS) (x1 : Int32) (Q : mS → Prop) : Prop :=
  vp_in (mgi σ 49) 8 ∧ (wM_laysRow σ x1 (fun σ12 => vp_in x1 40 ∧ (vp_in x1 40 ∧ (∀ σ26 : mS, σ26 = mpa σ12 29 x1.toNatClampNeg (mga σ12 25 x1.toNatClampNeg) → (∃ k29 : Nat, wM_laysPoints_l29  Q  x1 (mga σ 51 (mgi σ 49).toNatClampNeg) k29 σ26 (0 : Int32))))))
set_option maxHeartbeats 4000000 in
theorem mM_laysPoints (l : Launch) (G : mG) (o : Nat) (ρ : Nat → Nat) (hap : mAp o ρ) (σ : mS) (x1 : Int32) (Q : mS → Prop) (hw : wM_laysPoints σ x1 Q) : mMetV l G yX2_laysPoints (ws_ yX2_laysPoints cX2_laysPoints 5 none) 3 78 o ρ [.ref o, .int x1] σ Q := by
  refine mo_V plain2 rfl (Nat.le_of_ble_eq_true rfl) ?_
  intro p e s R m args below meth c QQ X hRf hRl hret
  obtain ⟨hx, hb, hml, hown, hts, hE⟩ := id X
  have hL108 : ∀ (x1 : Int32) (n108 : Nat) (σ : mS) (x3 : Int32), wM_laysPoints_l108  Q  x1 n108 σ x3 → ∀ (H : Heap) (locs : List Loc) (ls : Array Slot), mR G o ρ σ H → va_S (mA o ρ) s.heap H locs → lv_has ls 5 [(0, .ref o), (1, .int x1), (3, .int x3)] → W p l e R s m args below meth c H locs 0 0 QQ (F0 m 108 ls []) := by
    intro x1 n108
    induction n108 with
    | zero => intro σ x3 hw; exact hw.elim
    | succ n108 ih108 =>
      intro σ x3 hw H locs ls hR hS hl
      rw [wM_laysPoints_l108] at hw
      refine lv_iload_n hx hb dX2_laysPoints_108 rfl (lv_at hl 2 rfl) ?_
      refine lv_if_lt (tgt := 148) hx hb dX2_laysPoints_109 (by decide) (fun c_109 => ?_) (fun c_109 => ?_)
      · have hw := hw.1 c_109
        exact hret _ _ _ _ _ hw hR hS dX2_laysPoints_148
      · have hw := hw.2 c_109
        refine lv_aload_n hx hb dX2_laysPoints_112 rfl (lv_at hl 0 rfl) ?_
        refine mg_29 hx hb hts hown hE hR dX2_laysPoints_113 ?_
        refine lv_iload_n hx hb dX2_laysPoints_116 rfl (lv_at hl 1 rfl) ?_
        refine lv_aload_n hx hb dX2_laysPoints_117 rfl (lv_at hl 0 rfl) ?_
        refine mg_31 hx hb hts hown hE hR dX2_laysPoints_118 ?_
        refine lv_bipush (v := 9) hx hb dX2_laysPoints_121 (by decide) ?_
        refine lv_iload_n hx hb dX2_laysPoints_123 rfl (lv_at hl 1 rfl) ?_
        refine lv_imul hx hb dX2_laysPoints_124 ?_
        refine lv_iload_n hx hb dX2_laysPoints_125 rfl (lv_at hl 2 rfl) ?_
        refine lv_iadd hx hb dX2_laysPoints_126 ?_
        obtain ⟨hi_127, hw⟩ := hw
        refine ma_31 hx hb hE hR hi_127 dX2_laysPoints_127 ?_
        obtain ⟨hg, hw⟩ := hw
        have hK128 : ∀ (y128_0 : Int32), y128_0 = (if (mga σ 31 ((9 * x1) + x3).toNatClampNeg) < 0 then (mga σ 29 x1.toNatClampNeg) else x3) → ∀ (ls : Array Slot), lv_has ls 5 [(0, .ref o), (1, .int x1), (3, .int x3)] → W p l e R s m args below meth c H locs 0 0 QQ (F0 m 141 ls [.int y128_0, .int x1, .ref (ρ 29)]) := by
          intro y128_0 e_y128_0 ls hl
          have hw := hw y128_0 e_y128_0
          obtain ⟨hi_141, hw⟩ := hw
          refine mst_29 hx hb hE hap hR hS hi_141 dX2_laysPoints_141 (fun σ141 e_σ141 H locs hR hS => ?_)
          have hw := hw σ141 e_σ141
          clear e_σ141
          refine lv_iinc (k := 2) (lv' := [(3, .int (x3 + (-1))), (0, .ref o), (1, .int x1)]) hx hb dX2_laysPoints_142 hl rfl (congrArg (x3 + ·) (by decide : Int32.ofInt (-1) = (-1))) (by decide) rfl (fun ls hl => ?_)
          refine lv_goto (tgt := 108) hx hb dX2_laysPoints_145 (by decide) ?_
          exact ih108 σ141 (x3 + (-1)) hw H locs ls hR hS (lv_sub hl [1, 2, 0] rfl)
        refine lv_if_lt (tgt := 135) hx hb dX2_laysPoints_128 (by decide) (fun c_128 => ?_) (fun c_128 => ?_)
        · have hg := hg.1 c_128
          refine lv_aload_n hx hb dX2_laysPoints_135 rfl (lv_at hl 0 rfl) ?_
          refine mg_29 hx hb hts hown hE hR dX2_laysPoints_136 ?_
          refine lv_iload_n hx hb dX2_laysPoints_139 rfl (lv_at hl 1 rfl) ?_
          obtain ⟨hi_140, hg⟩ := hg
          refine ma_29 hx hb hE hR hi_140 dX2_laysPoints_140 ?_
          exact hK128 _ (if_pos c_128).symm ls (lv_sub hl [0, 1, 2] rfl)
        · have hg := hg.2 c_128
          refine lv_iload_n hx hb dX2_laysPoints_131 rfl (lv_at hl 2 rfl) ?_
          refine lv_goto (tgt := 141) hx hb dX2_laysPoints_132 (by decide) ?_
          exact hK128 _ (if_neg c_128).symm ls (lv_sub hl [0, 1, 2] rfl)
  have hL29 : ∀ (x1 : Int32) (x2 : Int32) (n29 : Nat) (σ : mS) (x3 : Int32), wM_laysPoints_l29  Q  x1 x2 n29 σ x3 → ∀ (H : Heap) (locs : List Loc) (ls : Array Slot), mR G o ρ σ H → va_S (mA o ρ) s.heap H locs → lv_has ls 5 [(0, .ref o), (1, .int x1), (2, .int x2), (3, .int x3)] → W p l e R s m args below meth c H locs 0 0 QQ (F0 m 29 ls []) := by
    intro x1 x2 n29
    induction n29 with
    | zero => intro σ x3 hw; exact hw.elim
    | succ n29 ih29 =>
      have hJ94 : ∀ (σ : mS) (x3 : Int32) (s0 : Int32) (s1 : Int32), wM_laysPoints_j94 (wM_laysPoints_l29  Q  x1 x2 n29) Q σ x1 x2 x3 s0 s1 → ∀ (H : Heap) (locs : List Loc) (ls : Array Slot), mR G o ρ σ H → va_S (mA o ρ) s.heap H locs → lv_has ls 5 [(0, .ref o), (1, .int x1), (2, .int x2), (3, .int x3)] → W p l e R s m args below meth c H locs 0 0 QQ (F0 m 94 ls [.int s0, .int s1, .ref (ρ 31)]) := by
        intro σ x3 s0 s1 hw H locs ls hR hS hl
        unfold wM_laysPoints_j94 at hw
        obtain ⟨hi_94, hw⟩ := hw
        refine mst_31 hx hb hE hap hR hS hi_94 dX2_laysPoints_94 (fun σ94 e_σ94 H locs hR hS => ?_)
        have hw := hw σ94 e_σ94
        clear e_σ94
        refine lv_iinc (k := 3) (lv' := [(3, .int (x3 + 1)), (0, .ref o), (1, .int x1), (2, .int x2)]) hx hb dX2_laysPoints_95 hl rfl (congrArg (x3 + ·) (by decide : Int32.ofInt 1 = 1)) (by decide) rfl (fun ls hl => ?_)
        refine lv_goto (tgt := 29) hx hb dX2_laysPoints_98 (by decide) ?_
        exact ih29 σ94 (x3 + 1) hw H locs ls hR hS (lv_sub hl [1, 2, 3, 0] rfl)
      have hJ64 : ∀ (σ : mS) (x3 : Int32) (s0 : Int32), wM_laysPoints_j64 (wM_laysPoints_l29  Q  x1 x2 n29) Q σ x1 x2 x3 s0 → ∀ (H : Heap) (locs : List Loc) (ls : Array Slot), mR G o ρ σ H → va_S (mA o ρ) s.heap H locs → lv_has ls 5 [(0, .ref o), (1, .int x1), (2, .int x2), (3, .int x3)] → W p l e R s m args below meth c H locs 0 0 QQ (F0 m 64 ls [.int s0]) := by
        intro σ x3 s0 hw H locs ls hR hS hl
        unfold wM_laysPoints_j64 at hw
        refine lv_istore (lv' := [(4, .int s0), (0, .ref o), (1, .int x1), (2, .int x2), (3, .int x3)]) hx hb dX2_laysPoints_64 hl (by decide) rfl (fun ls hl => ?_)
        refine lv_aload_n hx hb dX2_laysPoints_66 rfl (lv_at hl 1 rfl) ?_
        refine mg_31 hx hb hts hown hE hR dX2_laysPoints_67 ?_
        refine lv_bipush (v := 9) hx hb dX2_laysPoints_70 (by decide) ?_
        refine lv_iload_n hx hb dX2_laysPoints_72 rfl (lv_at hl 2 rfl) ?_
        refine lv_imul hx hb dX2_laysPoints_73 ?_
        refine lv_iload_n hx hb dX2_laysPoints_74 rfl (lv_at hl 4 rfl) ?_
        refine lv_iadd hx hb dX2_laysPoints_75 ?_
        refine lv_iload hx hb dX2_laysPoints_76 (lv_at hl 0 rfl) ?_
        refine lv_if_ge (tgt := 85) hx hb dX2_laysPoints_78 (by decide) (fun c_78 => ?_) (fun c_78 => ?_)
        · have hw := hw.1 c_78
          refine lv_iload hx hb dX2_laysPoints_85 (lv_at hl 0 rfl) ?_
          refine lv_iload_n hx hb dX2_laysPoints_87 rfl (lv_at hl 4 rfl) ?_
          refine lv_aload_n hx hb dX2_laysPoints_88 rfl (lv_at hl 1 rfl) ?_
          refine mc_vir (As := []) (rest := [.int x3, .int s0, .int ((9 * x1) + x3), .ref (ρ 31)]) X (mM_lift l G o ρ hap σ  _ hw) (lw_V q2399 q2401 qs79 q_ini2 q2402) hd2_lift (mm_le hRf rfl) (mm_le hRl rfl) rfl rfl (Nat.le_of_ble_eq_true rfl) dX2_laysPoints_89 hR hS hl.1 (fun r89 H locs hw hR hS => ?_)
          refine lv_imul hx hb dX2_laysPoints_92 ?_
          refine lv_iadd hx hb dX2_laysPoints_93 ?_
          exact hJ94 σ x3 (s0 + (x3 * r89)) ((9 * x1) + x3) hw H locs ls hR hS (lv_sub hl [1, 2, 3, 4] rfl)
        · have hw := hw.2 c_78
          refine lv_iconst (v := (-1)) hx hb dX2_laysPoints_81 (by decide) ?_
          refine lv_goto (tgt := 94) hx hb dX2_laysPoints_82 (by decide) ?_
          exact hJ94 σ x3 ((-1) : Int32) ((9 * x1) + x3) hw H locs ls hR hS (lv_sub hl [1, 2, 3, 4] rfl)
      have hJ63 : ∀ (σ : mS) (x3 : Int32), wM_laysPoints_j63 (wM_laysPoints_l29  Q  x1 x2 n29) Q σ x1 x2 x3 → ∀ (H : Heap) (locs : List Loc) (ls : Array Slot), mR G o ρ σ H → va_S (mA o ρ) s.heap H locs → lv_has ls 5 [(0, .ref o), (1, .int x1), (2, .int x2), (3, .int x3)] → W p l e R s m args below meth c H locs 0 0 QQ (F0 m 63 ls []) := by
        intro σ x3 hw H locs ls hR hS hl
        unfold wM_laysPoints_j63 at hw
        refine lv_iconst (v := (-1)) hx hb dX2_laysPoints_63 (by decide) ?_
        exact hJ64 σ x3 ((-1) : Int32) hw H locs ls hR hS (lv_sub hl [0, 1, 2, 3] rfl)
      intro σ x3 hw H locs ls hR hS hl
      rw [wM_laysPoints_l29] at hw
      refine lv_iload_n hx hb dX2_laysPoints_29 rfl (lv_at hl 3 rfl) ?_
      refine lv_bipush (v := 9) hx hb dX2_laysPoints_30 (by decide) ?_
      refine lv_icmp_ge (tgt := 101) hx hb dX2_laysPoints_32 (by decide) (fun c_32 => ?_) (fun c_32 => ?_)
      · have hw := hw.1 c_32
        refine lv_aload_n hx hb dX2_laysPoints_101 rfl (lv_at hl 0 rfl) ?_
        refine mg_25 hx hb hts hown hE hR dX2_laysPoints_102 ?_
        refine lv_iload_n hx hb dX2_laysPoints_105 rfl (lv_at hl 1 rfl) ?_
        obtain ⟨hi_106, hw⟩ := hw
        refine ma_25 hx hb hE hR hi_106 dX2_laysPoints_106 ?_
        refine lv_istore_n (lv' := [(3, .int (mga σ 25 x1.toNatClampNeg)), (0, .ref o), (1, .int x1), (2, .int x2)]) hx hb dX2_laysPoints_107 rfl hl (by decide) rfl (fun ls hl => ?_)
        obtain ⟨n108, hw⟩ := hw
        exact hL108 x1 n108 σ (mga σ 25 x1.toNatClampNeg) hw H locs ls hR hS (lv_sub hl [1, 2, 0] rfl)
      · have hw := hw.2 c_32
        refine lv_iload_n hx hb dX2_laysPoints_35 rfl (lv_at hl 3 rfl) ?_
        refine lv_aload_n hx hb dX2_laysPoints_36 rfl (lv_at hl 0 rfl) ?_
        refine mg_25 hx hb hts hown hE hR dX2_laysPoints_37 ?_
        refine lv_iload_n hx hb dX2_laysPoints_40 rfl (lv_at hl 1 rfl) ?_
        obtain ⟨hi_41, hw⟩ := hw
        refine ma_25 hx hb hE hR hi_41 dX2_laysPoints_41 ?_
        refine lv_icmp_gt (tgt := 63) hx hb dX2_laysPoints_42 (by decide) (fun c_42 => ?_) (fun c_42 => ?_)
        · have hw := hw.1 c_42
          exact hJ63 σ x3 hw H locs ls hR hS (lv_sub hl [0, 1, 2, 3] rfl)
        · have hw := hw.2 c_42
          refine lv_iload_n hx hb dX2_laysPoints_45 rfl (lv_at hl 3 rfl) ?_
          refine lv_iload_n hx hb dX2_laysPoints_46 rfl (lv_at hl 2 rfl) ?_
          refine lv_imul hx hb dX2_laysPoints_47 ?_
          refine lv_bipush (v := 9) hx hb dX2_laysPoints_48 (by decide) ?_
          refine lv_icmp_ge (tgt := 63) hx hb dX2_laysPoints_50 (by decide) (fun c_50 => ?_) (fun c_50 => ?_)
          · have hw := hw.1 c_50
            exact hJ63 σ x3 hw H locs ls hR hS (lv_sub hl [0, 1, 2, 3] rfl)
          · have hw := hw.2 c_50
            refine lv_aload_n hx hb dX2_laysPoints_53 rfl (lv_at hl 0 rfl) ?_
            refine lv_iload_n hx hb dX2_laysPoints_54 rfl (lv_at hl 3 rfl) ?_
            refine lv_iload_n hx hb dX2_laysPoints_55 rfl (lv_at hl 2 rfl) ?_
            refine lv_imul hx hb dX2_laysPoints_56 ?_
            refine mc_vi (As := [.int (x3 * x2)]) (rest := []) X (mM_head l G o ρ hap σ (x3 * x2) _ hw) (lw_V q2387 q2389 qs76 q_ini2 q2390) hd2_head (mm_le hRf rfl) (mm_le hRl rfl) rfl rfl (Nat.le_of_ble_eq_true rfl) dX2_laysPoints_57 hR hS hl.1 (fun r57 σ57 H locs hw hR hS => ?_)
            refine lv_goto (tgt := 64) hx hb dX2_laysPoints_60 (by decide) ?_
            exact hJ64 σ57 x3 r57 hw H locs ls hR hS (lv_sub hl [0, 1, 2, 3] rfl)
  intro H ls hR hS hl
  have hl : lv_has ls 5 [(0, .ref o), (1, .int x1)] := hl
  generalize ([] : List Loc) = locs at hS ⊢
  unfold wM_laysPoints at hw
  refine lv_aload_n hx hb dX2_laysPoints_0 rfl (lv_at hl 0 rfl) ?_
  refine mg_51 hx hb hts hown hE hR dX2_laysPoints_1 ?_
  refine lv_aload_n hx hb dX2_laysPoints_4 rfl (lv_at hl 0 rfl) ?_
  refine mg_49 hx hb hts hown hE hR dX2_laysPoints_5 ?_
  obtain ⟨hi_8, hw⟩ := hw
  refine ma_51 hx hb hE hR hi_8 dX2_laysPoints_8 ?_
  refine lv_istore_n (lv' := [(2, .int (mga σ 51 (mgi σ 49).toNatClampNeg)), (0, .ref o), (1, .int x1)]) hx hb dX2_laysPoints_9 rfl hl (by decide) rfl (fun ls hl => ?_)
  refine lv_aload_n hx hb dX2_laysPoints_10 rfl (lv_at hl 1 rfl) ?_
  refine lv_iload_n hx hb dX2_laysPoints_11 rfl (lv_at hl 2 rfl) ?_
  refine mc_vv (As := [.int x1]) (rest := []) X (mM_laysRow l G o ρ hap σ x1 _ hw) (lw_V q2383 q2385 qs75 q_ini2 q2386) hd2_laysRow (mm_le hRf rfl) (mm_le hRl rfl) rfl rfl (Nat.le_of_ble_eq_true rfl) dX2_laysPoints_12 hR hS hl.1 (fun σ12 H locs hw hR hS => ?_)
  refine lv_aload_n hx hb dX2_laysPoints_15 rfl (lv_at hl 1 rfl) ?_
  refine mg_29 hx hb hts hown hE hR dX2_laysPoints_16 ?_
  refine lv_iload_n hx hb dX2_laysPoints_19 rfl (lv_at hl 2 rfl) ?_
  refine lv_aload_n hx hb dX2_laysPoints_20 rfl (lv_at hl 1 rfl) ?_
  refine mg_25 hx hb hts hown hE hR dX2_laysPoints_21 ?_
  refine lv_iload_n hx hb dX2_laysPoints_24 rfl (lv_at hl 2 rfl) ?_
  obtain ⟨hi_25, hw⟩ := hw
  refine ma_25 hx hb hE hR hi_25 dX2_laysPoints_25 ?_
  obtain ⟨hi_26, hw⟩ := hw
  refine mst_29 hx hb hE hap hR hS hi_26 dX2_laysPoints_26 (fun σ26 e_σ26 H locs hR hS => ?_)
  have hw := hw σ26 e_σ26
  clear e_σ26
  refine lv_iconst (v := 0) hx hb dX2_laysPoints_27 (by decide) ?_
  refine lv_istore_n (lv' := [(3, .int 0), (2, .int (mga σ 51 (mgi σ 49).toNatClampNeg)), (0, .ref o), (1, .int x1)]) hx hb dX2_laysPoints_28 rfl hl (by decide) rfl (fun ls hl => ?_)
  obtain ⟨n29, hw⟩ := hw
  exact hL29 x1 (mga σ 51 (mgi σ 49).toNatClampNeg) n29 σ26 (0 : Int32) hw H locs ls hR hS (lv_sub hl [2, 3, 1, 0] rfl)
def wM_point0 (σ : mS) (x1 : Int32) (x2 : Int32) (Q : Int32 → Prop) : Prop :=
  vp_in ((9 * x1) + x2) 360 ∧ (Q (mga σ 31 ((9 * x1) + x2).toNatClampNeg))
set_option maxHeartbeats 4000000 in
theorem mM_point0 (l : Launch) (G : mG) (o : Nat) (ρ : Nat → Nat) (hap : mAp o ρ) (σ : mS) (x1 : Int32) (x2 : Int32) (Q : Int32 → Prop) (hw : wM_point0 σ x1 x2 Q) : mMetI l G yX2_point0 (ws_ yX2_point0 cX2_point0 3 (some .int)) 0 0 o ρ [.ref o, .int x1, .int x2] σ (fun r τ => σ = τ ∧ Q r) := by
  refine mo_I plain2 rfl (Nat.le_of_ble_eq_true rfl) ?_
  intro p e s R m args below meth c QQ X hRf hRl hret
  obtain ⟨hx, hb, hml, hown, hts, hE⟩ := id X
  intro H ls hR hS hl
  have hl : lv_has ls 3 [(0, .ref o), (1, .int x1), (2, .int x2)] := hl
  generalize ([] : List Loc) = locs at hS ⊢
  unfold wM_point0 at hw
  refine lv_aload_n hx hb dX2_point0_0 rfl (lv_at hl 0 rfl) ?_
  refine mg_31 hx hb hts hown hE hR dX2_point0_1 ?_
  refine lv_bipush (v := 9) hx hb dX2_point0_4 (by decide) ?_
  refine lv_iload_n hx hb dX2_point0_6 rfl (lv_at hl 1 rfl) ?_
  refine lv_imul hx hb dX2_point0_7 ?_
  refine lv_iload_n hx hb dX2_point0_8 rfl (lv_at hl 2 rfl) ?_
  refine lv_iadd hx hb dX2_point0_9 ?_
  obtain ⟨hi_10, hw⟩ := hw
  refine ma_31 hx hb hE hR hi_10 dX2_point0_10 ?_
  exact hret _ _ _ _ _ _ ⟨rfl, hw⟩ hR hS dX2_point0_11
def wM_nextCorner_j79 (rec8 : Int32 → Int32 → Prop) (Q : Int32 → Prop) (σ : mS) (x1 : Int32) (x2 : Int32) (x3 : Int32) (x4 : Int32) (x5 : Int32) (s0 : Int32) : Prop :=
  ∀ y83_0 : Int32, y83_0 = (if s0 = 0 then x4 else x5) → rec8 y83_0 (x5 + 1)
def wM_nextCorner_j74 (rec8 : Int32 → Int32 → Prop) (Q : Int32 → Prop) (σ : mS) (x1 : Int32) (x2 : Int32) (x3 : Int32) (x4 : Int32) (x5 : Int32)  : Prop :=
  (wM_nextCorner_j79 rec8 Q σ x1 x2 x3 x4 x5 (1 : Int32))
def wM_nextCorner_l8  (Q : Int32 → Prop) (σ : mS) (x1 : Int32) (x2 : Int32) (x3 : Int32) : Nat → Int32 → Int32 → Prop
  | 0, _, _ => False
  | n + 1, x4, x5 => ((x3 < x5 → Q x4) ∧ (¬ x3 < x5 → wM_point0 σ x1 x5 (fun r18 => ((r18 < 0 → wM_nextCorner_l8  Q σ x1 x2 x3 n x4 (x5 + 1)) ∧ (¬ r18 < 0 → wM_point0 σ x1 x5 (fun r28 => wM_point0 σ x1 x2 (fun r34 => ((x4 < 0 → (wM_nextCorner_j74 (fun z4 z5 => wM_nextCorner_l8  Q σ x1 x2 x3 n z4 z5) Q σ x1 x2 x3 x4 x5)) ∧ (¬ x4 < 0 → wM_point0 σ x1 x4 (fun r56 => wM_point0 σ x1 x2 (fun r62 => ((((r56 - r62) * (x5 - x2)) < ((r28 - r34) * (x4 - x2)) → (wM_nextCorner_j79 (fun z4 z5 => wM_nextCorner_l8  Q σ x1 x2 x3 n z4 z5) Q σ x1 x2 x3 x4 x5 (0 : Int32))) ∧ (¬ ((r56 - r62) * (x5 - x2)) < ((r28 - r34) * (x4 - x2)) → (wM_nextCorner_j74 (fun z4 z5 => wM_nextCorner_l8  Q σ x1 x2 x3 n z4 z5) Q σ x1 x2 x3 x4 x5))))))))))))))
def wM_nextCorner (σ : mS) (x1 : Int32) (x2 : Int32) (x3 : Int32) (Q : Int32 → Prop) : Prop :=
  (∃ k8 : Nat, wM_nextCorner_l8  Q σ x1 x2 x3 k8 ((-1) : Int32) (x2 + 1))
set_option maxHeartbeats 4000000 in
theorem mM_nextCorner (l : Launch) (G : mG) (o : Nat) (ρ : Nat → Nat) (hap : mAp o ρ) (σ : mS) (x1 : Int32) (x2 : Int32) (x3 : Int32) (Q : Int32 → Prop) (hw : wM_nextCorner σ x1 x2 x3 Q) : mMetI l G yX2_nextCorner (ws_ yX2_nextCorner cX2_nextCorner 8 (some .int)) 1 22 o ρ [.ref o, .int x1, .int x2, .int x3] σ (fun r τ => σ = τ ∧ Q r) := by
  refine mo_I plain2 rfl (Nat.le_of_ble_eq_true rfl) ?_
  intro p e s R m args below meth c QQ X hRf hRl hret
  obtain ⟨hx, hb, hml, hown, hts, hE⟩ := id X
  have hL8 : ∀ (x1 : Int32) (x2 : Int32) (x3 : Int32) (n8 : Nat) (x4 : Int32) (x5 : Int32), wM_nextCorner_l8  Q σ x1 x2 x3 n8 x4 x5 → ∀ (H : Heap) (locs : List Loc) (ls : Array Slot), mR G o ρ σ H → va_S (mA o ρ) s.heap H locs → lv_has ls 8 [(0, .ref o), (1, .int x1), (2, .int x2), (3, .int x3), (4, .int x4), (5, .int x5)] → W p l e R s m args below meth c H locs 0 0 QQ (F0 m 8 ls []) := by
    intro x1 x2 x3 n8
    induction n8 with
    | zero => intro x4 x5 hw; exact hw.elim
    | succ n8 ih8 =>
      have hJ79 : ∀ (x4 : Int32) (x5 : Int32) (s0 : Int32), wM_nextCorner_j79 (wM_nextCorner_l8  Q σ x1 x2 x3 n8) Q σ x1 x2 x3 x4 x5 s0 → ∀ (H : Heap) (locs : List Loc) (ls : Array Slot), mR G o ρ σ H → va_S (mA o ρ) s.heap H locs → lv_has ls 8 [(0, .ref o), (1, .int x1), (2, .int x2), (3, .int x3), (4, .int x4), (5, .int x5)] → W p l e R s m args below meth c H locs 0 0 QQ (F0 m 79 ls [.int s0]) := by
        intro x4 x5 s0 hw H locs ls hR hS hl
        unfold wM_nextCorner_j79 at hw
        refine lv_istore (lv' := [(7, .int s0), (0, .ref o), (1, .int x1), (2, .int x2), (3, .int x3), (4, .int x4), (5, .int x5)]) hx hb dX2_nextCorner_79 hl (by decide) rfl (fun ls hl => ?_)
        refine lv_iload hx hb dX2_nextCorner_81 (lv_at hl 0 rfl) ?_
        have hK83 : ∀ (y83_0 : Int32), y83_0 = (if s0 = 0 then x4 else x5) → ∀ (ls : Array Slot), lv_has ls 8 [(0, .ref o), (1, .int x1), (2, .int x2), (3, .int x3), (5, .int x5)] → W p l e R s m args below meth c H locs 0 0 QQ (F0 m 93 ls [.int y83_0]) := by
          intro y83_0 e_y83_0 ls hl
          have hw := hw y83_0 e_y83_0
          refine lv_istore (lv' := [(4, .int y83_0), (0, .ref o), (1, .int x1), (2, .int x2), (3, .int x3), (5, .int x5)]) hx hb dX2_nextCorner_93 hl (by decide) rfl (fun ls hl => ?_)
          refine lv_iinc (k := 5) (lv' := [(5, .int (x5 + 1)), (4, .int y83_0), (0, .ref o), (1, .int x1), (2, .int x2), (3, .int x3)]) hx hb dX2_nextCorner_95 hl rfl (congrArg (x5 + ·) (by decide : Int32.ofInt 1 = 1)) (by decide) rfl (fun ls hl => ?_)
          refine lv_goto (tgt := 8) hx hb dX2_nextCorner_98 (by decide) ?_
          exact ih8 y83_0 (x5 + 1) hw H locs ls hR hS (lv_sub hl [2, 3, 4, 5, 1, 0] rfl)
        refine lv_if_eq (tgt := 91) hx hb dX2_nextCorner_83 (by decide) (fun c_83 => ?_) (fun c_83 => ?_)
        · refine lv_iload hx hb dX2_nextCorner_91 (lv_at hl 5 rfl) ?_
          exact hK83 _ (if_pos c_83).symm ls (lv_sub hl [1, 2, 3, 4, 6] rfl)
        · refine lv_iload hx hb dX2_nextCorner_86 (lv_at hl 6 rfl) ?_
          refine lv_goto (tgt := 93) hx hb dX2_nextCorner_88 (by decide) ?_
          exact hK83 _ (if_neg c_83).symm ls (lv_sub hl [1, 2, 3, 4, 6] rfl)
      have hJ74 : ∀ (x4 : Int32) (x5 : Int32), wM_nextCorner_j74 (wM_nextCorner_l8  Q σ x1 x2 x3 n8) Q σ x1 x2 x3 x4 x5 → ∀ (H : Heap) (locs : List Loc) (ls : Array Slot), mR G o ρ σ H → va_S (mA o ρ) s.heap H locs → lv_has ls 8 [(0, .ref o), (1, .int x1), (2, .int x2), (3, .int x3), (4, .int x4), (5, .int x5)] → W p l e R s m args below meth c H locs 0 0 QQ (F0 m 74 ls []) := by
        intro x4 x5 hw H locs ls hR hS hl
        unfold wM_nextCorner_j74 at hw
        refine lv_iconst (v := 1) hx hb dX2_nextCorner_74 (by decide) ?_
        refine lv_goto (tgt := 79) hx hb dX2_nextCorner_75 (by decide) ?_
        exact hJ79 x4 x5 (1 : Int32) hw H locs ls hR hS (lv_sub hl [0, 1, 2, 3, 4, 5] rfl)
      intro x4 x5 hw H locs ls hR hS hl
      rw [wM_nextCorner_l8] at hw
      refine lv_iload hx hb dX2_nextCorner_8 (lv_at hl 5 rfl) ?_
      refine lv_iload_n hx hb dX2_nextCorner_10 rfl (lv_at hl 3 rfl) ?_
      refine lv_icmp_gt (tgt := 101) hx hb dX2_nextCorner_11 (by decide) (fun c_11 => ?_) (fun c_11 => ?_)
      · have hw := hw.1 c_11
        refine lv_iload hx hb dX2_nextCorner_101 (lv_at hl 4 rfl) ?_
        exact hret _ _ _ _ _ _ ⟨rfl, hw⟩ hR hS dX2_nextCorner_103
      · have hw := hw.2 c_11
        refine lv_aload_n hx hb dX2_nextCorner_14 rfl (lv_at hl 0 rfl) ?_
        refine lv_iload_n hx hb dX2_nextCorner_15 rfl (lv_at hl 1 rfl) ?_
        refine lv_iload hx hb dX2_nextCorner_16 (lv_at hl 5 rfl) ?_
        refine mc_vir (As := [.int x1, .int x5]) (rest := []) X (mM_point0 l G o ρ hap σ x1 x5 _ hw) (lw_V q2407 q2409 qs81 q_ini2 q2410) hd2_point0 (mm_le hRf rfl) (mm_le hRl rfl) rfl rfl (Nat.le_of_ble_eq_true rfl) dX2_nextCorner_18 hR hS hl.1 (fun r18 H locs hw hR hS => ?_)
        refine lv_if_lt (tgt := 95) hx hb dX2_nextCorner_21 (by decide) (fun c_21 => ?_) (fun c_21 => ?_)
        · have hw := hw.1 c_21
          refine lv_iinc (k := 5) (lv' := [(5, .int (x5 + 1)), (0, .ref o), (1, .int x1), (2, .int x2), (3, .int x3), (4, .int x4)]) hx hb dX2_nextCorner_95 hl rfl (congrArg (x5 + ·) (by decide : Int32.ofInt 1 = 1)) (by decide) rfl (fun ls hl => ?_)
          refine lv_goto (tgt := 8) hx hb dX2_nextCorner_98 (by decide) ?_
          exact ih8 x4 (x5 + 1) hw H locs ls hR hS (lv_sub hl [1, 2, 3, 4, 5, 0] rfl)
        · have hw := hw.2 c_21
          refine lv_aload_n hx hb dX2_nextCorner_24 rfl (lv_at hl 0 rfl) ?_
          refine lv_iload_n hx hb dX2_nextCorner_25 rfl (lv_at hl 1 rfl) ?_
          refine lv_iload hx hb dX2_nextCorner_26 (lv_at hl 5 rfl) ?_
          refine mc_vir (As := [.int x1, .int x5]) (rest := []) X (mM_point0 l G o ρ hap σ x1 x5 _ hw) (lw_V q2407 q2409 qs81 q_ini2 q2410) hd2_point0 (mm_le hRf rfl) (mm_le hRl rfl) rfl rfl (Nat.le_of_ble_eq_true rfl) dX2_nextCorner_28 hR hS hl.1 (fun r28 H locs hw hR hS => ?_)
          refine lv_aload_n hx hb dX2_nextCorner_31 rfl (lv_at hl 0 rfl) ?_
          refine lv_iload_n hx hb dX2_nextCorner_32 rfl (lv_at hl 1 rfl) ?_
          refine lv_iload_n hx hb dX2_nextCorner_33 rfl (lv_at hl 2 rfl) ?_
          refine mc_vir (As := [.int x1, .int x2]) (rest := [.int r28]) X (mM_point0 l G o ρ hap σ x1 x2 _ hw) (lw_V q2407 q2409 qs81 q_ini2 q2410) hd2_point0 (mm_le hRf rfl) (mm_le hRl rfl) rfl rfl (Nat.le_of_ble_eq_true rfl) dX2_nextCorner_34 hR hS hl.1 (fun r34 H locs hw hR hS => ?_)
          refine lv_isub hx hb dX2_nextCorner_37 ?_
          refine lv_istore (lv' := [(6, .int (r28 - r34)), (0, .ref o), (1, .int x1), (2, .int x2), (3, .int x3), (4, .int x4), (5, .int x5)]) hx hb dX2_nextCorner_38 hl (by decide) rfl (fun ls hl => ?_)
          refine lv_iload hx hb dX2_nextCorner_40 (lv_at hl 5 rfl) ?_
          refine lv_if_lt (tgt := 74) hx hb dX2_nextCorner_42 (by decide) (fun c_42 => ?_) (fun c_42 => ?_)
          · have hw := hw.1 c_42
            exact hJ74 x4 x5 hw H locs ls hR hS (lv_sub hl [1, 2, 3, 4, 5, 6] rfl)
          · have hw := hw.2 c_42
            refine lv_iload hx hb dX2_nextCorner_45 (lv_at hl 0 rfl) ?_
            refine lv_iload hx hb dX2_nextCorner_47 (lv_at hl 5 rfl) ?_
            refine lv_iload_n hx hb dX2_nextCorner_49 rfl (lv_at hl 3 rfl) ?_
            refine lv_isub hx hb dX2_nextCorner_50 ?_
            refine lv_imul hx hb dX2_nextCorner_51 ?_
            refine lv_aload_n hx hb dX2_nextCorner_52 rfl (lv_at hl 1 rfl) ?_
            refine lv_iload_n hx hb dX2_nextCorner_53 rfl (lv_at hl 2 rfl) ?_
            refine lv_iload hx hb dX2_nextCorner_54 (lv_at hl 5 rfl) ?_
            refine mc_vir (As := [.int x1, .int x4]) (rest := [.int ((r28 - r34) * (x4 - x2))]) X (mM_point0 l G o ρ hap σ x1 x4 _ hw) (lw_V q2407 q2409 qs81 q_ini2 q2410) hd2_point0 (mm_le hRf rfl) (mm_le hRl rfl) rfl rfl (Nat.le_of_ble_eq_true rfl) dX2_nextCorner_56 hR hS hl.1 (fun r56 H locs hw hR hS => ?_)
            refine lv_aload_n hx hb dX2_nextCorner_59 rfl (lv_at hl 1 rfl) ?_
            refine lv_iload_n hx hb dX2_nextCorner_60 rfl (lv_at hl 2 rfl) ?_
            refine lv_iload_n hx hb dX2_nextCorner_61 rfl (lv_at hl 3 rfl) ?_
            refine mc_vir (As := [.int x1, .int x2]) (rest := [.int r56, .int ((r28 - r34) * (x4 - x2))]) X (mM_point0 l G o ρ hap σ x1 x2 _ hw) (lw_V q2407 q2409 qs81 q_ini2 q2410) hd2_point0 (mm_le hRf rfl) (mm_le hRl rfl) rfl rfl (Nat.le_of_ble_eq_true rfl) dX2_nextCorner_62 hR hS hl.1 (fun r62 H locs hw hR hS => ?_)
            refine lv_isub hx hb dX2_nextCorner_65 ?_
            refine lv_iload hx hb dX2_nextCorner_66 (lv_at hl 6 rfl) ?_
            refine lv_iload_n hx hb dX2_nextCorner_68 rfl (lv_at hl 3 rfl) ?_
            refine lv_isub hx hb dX2_nextCorner_69 ?_
            refine lv_imul hx hb dX2_nextCorner_70 ?_
            refine lv_icmp_gt (tgt := 78) hx hb dX2_nextCorner_71 (by decide) (fun c_71 => ?_) (fun c_71 => ?_)
            · have hw := hw.1 c_71
              refine lv_iconst (v := 0) hx hb dX2_nextCorner_78 (by decide) ?_
              exact hJ79 x4 x5 (0 : Int32) hw H locs ls hR hS (lv_sub hl [1, 2, 3, 4, 5, 6] rfl)
            · have hw := hw.2 c_71
              exact hJ74 x4 x5 hw H locs ls hR hS (lv_sub hl [1, 2, 3, 4, 5, 6] rfl)
  intro H ls hR hS hl
  have hl : lv_has ls 8 [(0, .ref o), (1, .int x1), (2, .int x2), (3, .int x3)] := hl
  generalize ([] : List Loc) = locs at hS ⊢
  unfold wM_nextCorner at hw
  refine lv_iconst (v := (-1)) hx hb dX2_nextCorner_0 (by decide) ?_
  refine lv_istore (lv' := [(4, .int (-1)), (0, .ref o), (1, .int x1), (2, .int x2), (3, .int x3)]) hx hb dX2_nextCorner_1 hl (by decide) rfl (fun ls hl => ?_)
  refine lv_iload_n hx hb dX2_nextCorner_3 rfl (lv_at hl 3 rfl) ?_
  refine lv_iconst (v := 1) hx hb dX2_nextCorner_4 (by decide) ?_
  refine lv_iadd hx hb dX2_nextCorner_5 ?_
  refine lv_istore (lv' := [(5, .int (x2 + 1)), (4, .int (-1)), (0, .ref o), (1, .int x1), (2, .int x2), (3, .int x3)]) hx hb dX2_nextCorner_6 hl (by decide) rfl (fun ls hl => ?_)
  obtain ⟨n8, hw⟩ := hw
  exact hL8 x1 x2 x3 n8 ((-1) : Int32) (x2 + 1) hw H locs ls hR hS (lv_sub hl [2, 3, 4, 5, 1, 0] rfl)
def wM_divisor_l4  (Q : Int32 → Prop)   : Nat → Int32 → Int32 → Prop
  | 0, _, _ => False
  | n + 1, x2, x3 => ((x3 = 0 → Q x2) ∧ (¬ x3 = 0 → ¬ x3 = 0 ∧ (wM_divisor_l4  Q   n x3 (x2 - x2 / x3 * x3))))
def wM_divisor  (x0 : Int32) (x1 : Int32) (Q : Int32 → Prop) : Prop :=
  (∃ k4 : Nat, wM_divisor_l4  Q   k4 x0 x1)
set_option maxHeartbeats 4000000 in
theorem mM_divisor (l : Launch) (x0 : Int32) (x1 : Int32) (Q : Int32 → Prop) (hw : wM_divisor x0 x1 Q) : mMetS l yX2_divisor (ws_ yX2_divisor cX2_divisor 5 (some .int)) 0 0 [.int x0, .int x1] Q := by
  refine mo_SI plain2 (Nat.le_of_ble_eq_true rfl) ?_
  intro p e s R m args below meth c QQ X hRf hRl hret
  have X : sCtx p s m args c RX2 cX2_divisor 5 := X
  obtain ⟨hx, hb, hml, hown, hts⟩ := id X
  have hL4 : ∀ (n4 : Nat) (x2 : Int32) (x3 : Int32), wM_divisor_l4  Q   n4 x2 x3 → ∀ (H : Heap) (locs : List Loc) (ls : Array Slot), va_S (fun _ => False) s.heap H locs → lv_has ls 5 [(2, .int x2), (3, .int x3)] → W p l e R s m args below meth c H locs 0 0 QQ (F0 m 4 ls []) := by
    intro  n4
    induction n4 with
    | zero => intro x2 x3 hw; exact hw.elim
    | succ n4 ih4 =>
      intro x2 x3 hw H locs ls hS hl
      rw [wM_divisor_l4] at hw
      refine lv_iload_n hx hb dX2_divisor_4 rfl (lv_at hl 1 rfl) ?_
      refine lv_if_eq (tgt := 21) hx hb dX2_divisor_5 (by decide) (fun c_5 => ?_) (fun c_5 => ?_)
      · have hw := hw.1 c_5
        refine lv_iload_n hx hb dX2_divisor_21 rfl (lv_at hl 0 rfl) ?_
        exact hret _ _ _ _ _ hw hS dX2_divisor_22
      · have hw := hw.2 c_5
        refine lv_iload_n hx hb dX2_divisor_8 rfl (lv_at hl 0 rfl) ?_
        refine lv_iload_n hx hb dX2_divisor_9 rfl (lv_at hl 1 rfl) ?_
        obtain ⟨hz_10, hw⟩ := hw
        refine lv_irem hx hb dX2_divisor_10 hz_10 ?_
        refine lv_istore (lv' := [(4, .int (x2 - x2 / x3 * x3)), (2, .int x2), (3, .int x3)]) hx hb dX2_divisor_11 hl (by decide) rfl (fun ls hl => ?_)
        refine lv_iload_n hx hb dX2_divisor_13 rfl (lv_at hl 2 rfl) ?_
        refine lv_istore_n (lv' := [(2, .int x3), (4, .int (x2 - x2 / x3 * x3)), (3, .int x3)]) hx hb dX2_divisor_14 rfl hl (by decide) rfl (fun ls hl => ?_)
        refine lv_iload hx hb dX2_divisor_15 (lv_at hl 1 rfl) ?_
        refine lv_istore_n (lv' := [(3, .int (x2 - x2 / x3 * x3)), (2, .int x3), (4, .int (x2 - x2 / x3 * x3))]) hx hb dX2_divisor_17 rfl hl (by decide) rfl (fun ls hl => ?_)
        refine lv_goto (tgt := 4) hx hb dX2_divisor_18 (by decide) ?_
        exact ih4 x3 (x2 - x2 / x3 * x3) hw H locs ls hS (lv_sub hl [1, 0] rfl)
  intro H ls hS hl
  have hl : lv_has ls 5 [(0, .int x0), (1, .int x1)] := hl
  generalize ([] : List Loc) = locs at hS ⊢
  unfold wM_divisor at hw
  refine lv_iload_n hx hb dX2_divisor_0 rfl (lv_at hl 0 rfl) ?_
  refine lv_istore_n (lv' := [(2, .int x0), (0, .int x0), (1, .int x1)]) hx hb dX2_divisor_1 rfl hl (by decide) rfl (fun ls hl => ?_)
  refine lv_iload_n hx hb dX2_divisor_2 rfl (lv_at hl 2 rfl) ?_
  refine lv_istore_n (lv' := [(3, .int x1), (2, .int x0), (0, .int x0), (1, .int x1)]) hx hb dX2_divisor_3 rfl hl (by decide) rfl (fun ls hl => ?_)
  obtain ⟨n4, hw⟩ := hw
  exact hL4  n4 x0 x1 hw H locs ls hS (lv_sub hl [1, 0] rfl)
def wM_laysMonomial_l38 (rec30 : mS → Int32 → Int32 → Prop) (Q : mS → Prop) (σ : mS) (x2 : Int32) (x3 : Int32) : Nat → Int32 → Prop
  | 0, _ => False
  | n + 1, x4 => vp_in x3 8 ∧ (vp_in x3 8 ∧ (¬ (mga σ 50 x3.toNatClampNeg) = 0 ∧ (((((x2 - (x4 * (mga σ 52 x3.toNatClampNeg))) - (x2 - (x4 * (mga σ 52 x3.toNatClampNeg))) / (mga σ 50 x3.toNatClampNeg) * (mga σ 50 x3.toNatClampNeg)) = 0 → vp_in x3 7 ∧ (∀ σ72 : mS, σ72 = mpa σ 55 x3.toNatClampNeg x4 → vp_in x3 8 ∧ (vp_in x3 8 ∧ (¬ (mga σ72 50 x3.toNatClampNeg) = 0 ∧ (∀ v91 : Int32, v91 = ((x2 - (x4 * (mga σ72 52 x3.toNatClampNeg))) / (mga σ72 50 x3.toNatClampNeg)) → rec30 σ72 v91 (x3 + (-1))))))) ∧ (¬ ((x2 - (x4 * (mga σ 52 x3.toNatClampNeg))) - (x2 - (x4 * (mga σ 52 x3.toNatClampNeg))) / (mga σ 50 x3.toNatClampNeg) * (mga σ 50 x3.toNatClampNeg)) = 0 → wM_laysMonomial_l38 rec30 Q σ x2 x3 n (x4 + 1))))))
def wM_laysMonomial_l30  (Q : mS → Prop)   : Nat → mS → Int32 → Int32 → Prop
  | 0, _, _, _ => False
  | n + 1, σ, x2, x3 => ((x3 < (1 : Int32) → ∀ σ104 : mS, σ104 = mpa σ 55 (0 : Int32).toNatClampNeg x2 → Q σ104) ∧ (¬ x3 < (1 : Int32) → (∃ k38 : Nat, wM_laysMonomial_l38 (fun z z2 z3 => wM_laysMonomial_l30  Q   n z z2 z3) Q σ x2 x3 k38 (0 : Int32))))
def wM_laysMonomial_l4  (Q : mS → Prop)  (x2 : Int32) : Nat → mS → Int32 → Prop
  | 0, _, _ => False
  | n + 1, σ, x3 => (((7 : Int32) ≤ x3 → (∃ k30 : Nat, wM_laysMonomial_l30  Q   k30 σ x2 ((mgi σ 49) - 1))) ∧ (¬ (7 : Int32) ≤ x3 → vp_in x3 7 ∧ (∀ σ16 : mS, σ16 = mpa σ 55 x3.toNatClampNeg 0 → wM_laysMonomial_l4  Q  x2 n σ16 (x3 + 1))))
def wM_laysMonomial (σ : mS) (x1 : Int32) (Q : mS → Prop) : Prop :=
  (∃ k4 : Nat, wM_laysMonomial_l4  Q  x1 k4 σ (0 : Int32))
set_option maxHeartbeats 4000000 in
theorem mM_laysMonomial (l : Launch) (G : mG) (o : Nat) (ρ : Nat → Nat) (hap : mAp o ρ) (σ : mS) (x1 : Int32) (Q : mS → Prop) (hw : wM_laysMonomial σ x1 Q) : mMetV l G yX2_laysMonomial (ws_ yX2_laysMonomial cX2_laysMonomial 5 none) 0 0 o ρ [.ref o, .int x1] σ Q := by
  refine mo_V plain2 rfl (Nat.le_of_ble_eq_true rfl) ?_
  intro p e s R m args below meth c QQ X hRf hRl hret
  obtain ⟨hx, hb, hml, hown, hts, hE⟩ := id X
  have hL30 : ∀ (n30 : Nat) (σ : mS) (x2 : Int32) (x3 : Int32), wM_laysMonomial_l30  Q   n30 σ x2 x3 → ∀ (H : Heap) (locs : List Loc) (ls : Array Slot), mR G o ρ σ H → va_S (mA o ρ) s.heap H locs → lv_has ls 5 [(0, .ref o), (2, .int x2), (3, .int x3)] → W p l e R s m args below meth c H locs 0 0 QQ (F0 m 30 ls []) := by
    intro  n30
    induction n30 with
    | zero => intro σ x2 x3 hw; exact hw.elim
    | succ n30 ih30 =>
      have hL38 : ∀ (σ : mS) (x2 : Int32) (x3 : Int32) (n38 : Nat) (x4 : Int32), wM_laysMonomial_l38 (wM_laysMonomial_l30  Q   n30) Q σ x2 x3 n38 x4 → ∀ (H : Heap) (locs : List Loc) (ls : Array Slot), mR G o ρ σ H → va_S (mA o ρ) s.heap H locs → lv_has ls 5 [(0, .ref o), (2, .int x2), (3, .int x3), (4, .int x4)] → W p l e R s m args below meth c H locs 0 0 QQ (F0 m 38 ls []) := by
        intro σ x2 x3 n38
        induction n38 with
        | zero => intro x4 hw; exact hw.elim
        | succ n38 ih38 =>
          intro x4 hw H locs ls hR hS hl
          rw [wM_laysMonomial_l38] at hw
          refine lv_iload_n hx hb dX2_laysMonomial_38 rfl (lv_at hl 1 rfl) ?_
          refine lv_iload hx hb dX2_laysMonomial_39 (lv_at hl 3 rfl) ?_
          refine lv_aload_n hx hb dX2_laysMonomial_41 rfl (lv_at hl 0 rfl) ?_
          refine mg_52 hx hb hts hown hE hR dX2_laysMonomial_42 ?_
          refine lv_iload_n hx hb dX2_laysMonomial_45 rfl (lv_at hl 2 rfl) ?_
          obtain ⟨hi_46, hw⟩ := hw
          refine ma_52 hx hb hE hR hi_46 dX2_laysMonomial_46 ?_
          refine lv_imul hx hb dX2_laysMonomial_47 ?_
          refine lv_isub hx hb dX2_laysMonomial_48 ?_
          refine lv_aload_n hx hb dX2_laysMonomial_49 rfl (lv_at hl 0 rfl) ?_
          refine mg_50 hx hb hts hown hE hR dX2_laysMonomial_50 ?_
          refine lv_iload_n hx hb dX2_laysMonomial_53 rfl (lv_at hl 2 rfl) ?_
          obtain ⟨hi_54, hw⟩ := hw
          refine ma_50 hx hb hE hR hi_54 dX2_laysMonomial_54 ?_
          obtain ⟨hz_55, hw⟩ := hw
          refine lv_irem hx hb dX2_laysMonomial_55 hz_55 ?_
          refine lv_if_eq (tgt := 65) hx hb dX2_laysMonomial_56 (by decide) (fun c_56 => ?_) (fun c_56 => ?_)
          · have hw := hw.1 c_56
            refine lv_aload_n hx hb dX2_laysMonomial_65 rfl (lv_at hl 0 rfl) ?_
            refine mg_55 hx hb hts hown hE hR dX2_laysMonomial_66 ?_
            refine lv_iload_n hx hb dX2_laysMonomial_69 rfl (lv_at hl 2 rfl) ?_
            refine lv_iload hx hb dX2_laysMonomial_70 (lv_at hl 3 rfl) ?_
            obtain ⟨hi_72, hw⟩ := hw
            refine mst_55 hx hb hE hap hR hS hi_72 dX2_laysMonomial_72 (fun σ72 e_σ72 H locs hR hS => ?_)
            have hw := hw σ72 e_σ72
            clear e_σ72
            refine lv_iload_n hx hb dX2_laysMonomial_73 rfl (lv_at hl 1 rfl) ?_
            refine lv_iload hx hb dX2_laysMonomial_74 (lv_at hl 3 rfl) ?_
            refine lv_aload_n hx hb dX2_laysMonomial_76 rfl (lv_at hl 0 rfl) ?_
            refine mg_52 hx hb hts hown hE hR dX2_laysMonomial_77 ?_
            refine lv_iload_n hx hb dX2_laysMonomial_80 rfl (lv_at hl 2 rfl) ?_
            obtain ⟨hi_81, hw⟩ := hw
            refine ma_52 hx hb hE hR hi_81 dX2_laysMonomial_81 ?_
            refine lv_imul hx hb dX2_laysMonomial_82 ?_
            refine lv_isub hx hb dX2_laysMonomial_83 ?_
            refine lv_aload_n hx hb dX2_laysMonomial_84 rfl (lv_at hl 0 rfl) ?_
            refine mg_50 hx hb hts hown hE hR dX2_laysMonomial_85 ?_
            refine lv_iload_n hx hb dX2_laysMonomial_88 rfl (lv_at hl 2 rfl) ?_
            obtain ⟨hi_89, hw⟩ := hw
            refine ma_50 hx hb hE hR hi_89 dX2_laysMonomial_89 ?_
            obtain ⟨hz_90, hw⟩ := hw
            refine lv_idiv hx hb dX2_laysMonomial_90 hz_90 ?_
            refine lv_topi (fun v91 e_v91 => ?_)
            have hw := hw v91 e_v91
            refine lv_istore_n (lv' := [(2, .int v91), (0, .ref o), (3, .int x3), (4, .int x4)]) hx hb dX2_laysMonomial_91 rfl hl (by decide) rfl (fun ls hl => ?_)
            refine lv_iinc (k := 2) (lv' := [(3, .int (x3 + (-1))), (2, .int v91), (0, .ref o), (4, .int x4)]) hx hb dX2_laysMonomial_92 hl rfl (congrArg (x3 + ·) (by decide : Int32.ofInt (-1) = (-1))) (by decide) rfl (fun ls hl => ?_)
            refine lv_goto (tgt := 30) hx hb dX2_laysMonomial_95 (by decide) ?_
            exact ih30 σ72 v91 (x3 + (-1)) hw H locs ls hR hS (lv_sub hl [2, 1, 0] rfl)
          · have hw := hw.2 c_56
            refine lv_iinc (k := 3) (lv' := [(4, .int (x4 + 1)), (0, .ref o), (2, .int x2), (3, .int x3)]) hx hb dX2_laysMonomial_59 hl rfl (congrArg (x4 + ·) (by decide : Int32.ofInt 1 = 1)) (by decide) rfl (fun ls hl => ?_)
            refine lv_goto (tgt := 38) hx hb dX2_laysMonomial_62 (by decide) ?_
            exact ih38 (x4 + 1) hw H locs ls hR hS (lv_sub hl [1, 2, 3, 0] rfl)
      intro σ x2 x3 hw H locs ls hR hS hl
      rw [wM_laysMonomial_l30] at hw
      refine lv_iload_n hx hb dX2_laysMonomial_30 rfl (lv_at hl 2 rfl) ?_
      refine lv_iconst (v := 1) hx hb dX2_laysMonomial_31 (by decide) ?_
      refine lv_icmp_lt (tgt := 98) hx hb dX2_laysMonomial_32 (by decide) (fun c_32 => ?_) (fun c_32 => ?_)
      · have hw := hw.1 c_32
        refine lv_aload_n hx hb dX2_laysMonomial_98 rfl (lv_at hl 0 rfl) ?_
        refine mg_55 hx hb hts hown hE hR dX2_laysMonomial_99 ?_
        refine lv_iconst (v := 0) hx hb dX2_laysMonomial_102 (by decide) ?_
        refine lv_iload_n hx hb dX2_laysMonomial_103 rfl (lv_at hl 1 rfl) ?_
        refine mst_55 hx hb hE hap hR hS (vp_lit (by decide)) dX2_laysMonomial_104 (fun σ104 e_σ104 H locs hR hS => ?_)
        have hw := hw σ104 e_σ104
        clear e_σ104
        exact hret _ _ _ _ _ hw hR hS dX2_laysMonomial_105
      · have hw := hw.2 c_32
        refine lv_iconst (v := 0) hx hb dX2_laysMonomial_35 (by decide) ?_
        refine lv_istore (lv' := [(4, .int 0), (0, .ref o), (2, .int x2), (3, .int x3)]) hx hb dX2_laysMonomial_36 hl (by decide) rfl (fun ls hl => ?_)
        obtain ⟨n38, hw⟩ := hw
        exact hL38 σ x2 x3 n38 (0 : Int32) hw H locs ls hR hS (lv_sub hl [1, 2, 3, 0] rfl)
  have hL4 : ∀ (x2 : Int32) (n4 : Nat) (σ : mS) (x3 : Int32), wM_laysMonomial_l4  Q  x2 n4 σ x3 → ∀ (H : Heap) (locs : List Loc) (ls : Array Slot), mR G o ρ σ H → va_S (mA o ρ) s.heap H locs → lv_has ls 5 [(0, .ref o), (2, .int x2), (3, .int x3)] → W p l e R s m args below meth c H locs 0 0 QQ (F0 m 4 ls []) := by
    intro x2 n4
    induction n4 with
    | zero => intro σ x3 hw; exact hw.elim
    | succ n4 ih4 =>
      intro σ x3 hw H locs ls hR hS hl
      rw [wM_laysMonomial_l4] at hw
      refine lv_iload_n hx hb dX2_laysMonomial_4 rfl (lv_at hl 2 rfl) ?_
      refine lv_bipush (v := 7) hx hb dX2_laysMonomial_5 (by decide) ?_
      refine lv_icmp_ge (tgt := 23) hx hb dX2_laysMonomial_7 (by decide) (fun c_7 => ?_) (fun c_7 => ?_)
      · have hw := hw.1 c_7
        refine lv_aload_n hx hb dX2_laysMonomial_23 rfl (lv_at hl 0 rfl) ?_
        refine mg_49 hx hb hts hown hE hR dX2_laysMonomial_24 ?_
        refine lv_iconst (v := 1) hx hb dX2_laysMonomial_27 (by decide) ?_
        refine lv_isub hx hb dX2_laysMonomial_28 ?_
        refine lv_istore_n (lv' := [(3, .int ((mgi σ 49) - 1)), (0, .ref o), (2, .int x2)]) hx hb dX2_laysMonomial_29 rfl hl (by decide) rfl (fun ls hl => ?_)
        obtain ⟨n30, hw⟩ := hw
        exact hL30  n30 σ x2 ((mgi σ 49) - 1) hw H locs ls hR hS (lv_sub hl [1, 2, 0] rfl)
      · have hw := hw.2 c_7
        refine lv_aload_n hx hb dX2_laysMonomial_10 rfl (lv_at hl 0 rfl) ?_
        refine mg_55 hx hb hts hown hE hR dX2_laysMonomial_11 ?_
        refine lv_iload_n hx hb dX2_laysMonomial_14 rfl (lv_at hl 2 rfl) ?_
        refine lv_iconst (v := 0) hx hb dX2_laysMonomial_15 (by decide) ?_
        obtain ⟨hi_16, hw⟩ := hw
        refine mst_55 hx hb hE hap hR hS hi_16 dX2_laysMonomial_16 (fun σ16 e_σ16 H locs hR hS => ?_)
        have hw := hw σ16 e_σ16
        clear e_σ16
        refine lv_iinc (k := 2) (lv' := [(3, .int (x3 + 1)), (0, .ref o), (2, .int x2)]) hx hb dX2_laysMonomial_17 hl rfl (congrArg (x3 + ·) (by decide : Int32.ofInt 1 = 1)) (by decide) rfl (fun ls hl => ?_)
        refine lv_goto (tgt := 4) hx hb dX2_laysMonomial_20 (by decide) ?_
        exact ih4 σ16 (x3 + 1) hw H locs ls hR hS (lv_sub hl [1, 2, 0] rfl)
  intro H ls hR hS hl
  have hl : lv_has ls 5 [(0, .ref o), (1, .int x1)] := hl
  generalize ([] : List Loc) = locs at hS ⊢
  unfold wM_laysMonomial at hw
  refine lv_iload_n hx hb dX2_laysMonomial_0 rfl (lv_at hl 1 rfl) ?_
  refine lv_istore_n (lv' := [(2, .int x1), (0, .ref o), (1, .int x1)]) hx hb dX2_laysMonomial_1 rfl hl (by decide) rfl (fun ls hl => ?_)
  refine lv_iconst (v := 0) hx hb dX2_laysMonomial_2 (by decide) ?_
  refine lv_istore_n (lv' := [(3, .int 0), (2, .int x1), (0, .ref o), (1, .int x1)]) hx hb dX2_laysMonomial_3 rfl hl (by decide) rfl (fun ls hl => ?_)
  obtain ⟨n4, hw⟩ := hw
  exact hL4 x1 n4 σ (0 : Int32) hw H locs ls hR hS (lv_sub hl [2, 1, 0] rfl)
def wM_takesDown_l44 (rec12 : mS → Prop) (rec7 : mS → Int32 → Prop) (Q : mS → Prop)  (x1 : Int32) : Nat → mS → Int32 → Prop
  | 0, _, _ => False
  | n + 1, σ, x2 => (((7 : Int32) ≤ x2 → vp_in x1 8 ∧ (vp_in (mga σ 54 x1.toNatClampNeg) 40 ∧ (¬ (mgi σ 0) = 0 ∧ (∀ σ103 : mS, σ103 = mpi σ 56 (((mgi σ 56) * (mga σ 34 (mga σ 54 x1.toNatClampNeg).toNatClampNeg)) - ((mgi σ 56) * (mga σ 34 (mga σ 54 x1.toNatClampNeg).toNatClampNeg)) / (mgi σ 0) * (mgi σ 0)) → rec12 σ103)))) ∧ (¬ (7 : Int32) ≤ x2 → vp_in x2 7 ∧ (vp_in x1 8 ∧ (vp_in ((7 * (mga σ 54 x1.toNatClampNeg)) + x2) 280 ∧ (vp_in x2 7 ∧ (∀ σ74 : mS, σ74 = mpa σ 55 x2.toNatClampNeg ((mga σ 55 x2.toNatClampNeg) + (mga σ 35 ((7 * (mga σ 54 x1.toNatClampNeg)) + x2).toNatClampNeg)) → wM_takesDown_l44 rec12 rec7 Q  x1 n σ74 (x2 + 1)))))))
def wM_takesDown_l12 (rec7 : mS → Int32 → Prop) (Q : mS → Prop)  (x1 : Int32) : Nat → mS → Prop
  | 0, _ => False
  | n + 1, σ => vp_in x1 7 ∧ (vp_in x1 8 ∧ ((((mga σ 55 x1.toNatClampNeg) < (mga σ 50 x1.toNatClampNeg) → rec7 σ (x1 + (-1))) ∧ (¬ (mga σ 55 x1.toNatClampNeg) < (mga σ 50 x1.toNatClampNeg) → vp_in x1 7 ∧ (vp_in x1 8 ∧ (vp_in x1 7 ∧ (∀ σ41 : mS, σ41 = mpa σ 55 x1.toNatClampNeg ((mga σ 55 x1.toNatClampNeg) - (mga σ 50 x1.toNatClampNeg)) → (∃ k44 : Nat, wM_takesDown_l44 (fun z => wM_takesDown_l12 rec7 Q  x1 n z) rec7 Q  x1 k44 σ41 (0 : Int32)))))))))
def wM_takesDown_l7  (Q : mS → Prop)   : Nat → mS → Int32 → Prop
  | 0, _, _ => False
  | n + 1, σ, x1 => ((x1 < (1 : Int32) → Q σ) ∧ (¬ x1 < (1 : Int32) → (∃ k12 : Nat, wM_takesDown_l12 (fun z z1 => wM_takesDown_l7  Q   n z z1) Q  x1 k12 σ)))
def wM_takesDown (σ : mS)  (Q : mS → Prop) : Prop :=
  (∃ k7 : Nat, wM_takesDown_l7  Q   k7 σ ((mgi σ 49) - 1))
set_option maxHeartbeats 4000000 in
theorem mM_takesDown (l : Launch) (G : mG) (o : Nat) (ρ : Nat → Nat) (hap : mAp o ρ) (σ : mS)  (Q : mS → Prop) (hw : wM_takesDown σ  Q) : mMetV l G yX2_takesDown (ws_ yX2_takesDown cX2_takesDown 3 none) 0 0 o ρ [.ref o] σ Q := by
  refine mo_V plain2 rfl (Nat.le_of_ble_eq_true rfl) ?_
  intro p e s R m args below meth c QQ X hRf hRl hret
  obtain ⟨hx, hb, hml, hown, hts, hE⟩ := id X
  have hL7 : ∀ (n7 : Nat) (σ : mS) (x1 : Int32), wM_takesDown_l7  Q   n7 σ x1 → ∀ (H : Heap) (locs : List Loc) (ls : Array Slot), mR G o ρ σ H → va_S (mA o ρ) s.heap H locs → lv_has ls 3 [(0, .ref o), (1, .int x1)] → W p l e R s m args below meth c H locs 0 0 QQ (F0 m 7 ls []) := by
    intro  n7
    induction n7 with
    | zero => intro σ x1 hw; exact hw.elim
    | succ n7 ih7 =>
      have hL12 : ∀ (x1 : Int32) (n12 : Nat) (σ : mS), wM_takesDown_l12 (wM_takesDown_l7  Q   n7) Q  x1 n12 σ → ∀ (H : Heap) (locs : List Loc) (ls : Array Slot), mR G o ρ σ H → va_S (mA o ρ) s.heap H locs → lv_has ls 3 [(0, .ref o), (1, .int x1)] → W p l e R s m args below meth c H locs 0 0 QQ (F0 m 12 ls []) := by
        intro x1 n12
        induction n12 with
        | zero => intro σ hw; exact hw.elim
        | succ n12 ih12 =>
          have hL44 : ∀ (n44 : Nat) (σ : mS) (x2 : Int32), wM_takesDown_l44 (wM_takesDown_l12 (wM_takesDown_l7  Q   n7) Q  x1 n12) (wM_takesDown_l7  Q   n7) Q  x1 n44 σ x2 → ∀ (H : Heap) (locs : List Loc) (ls : Array Slot), mR G o ρ σ H → va_S (mA o ρ) s.heap H locs → lv_has ls 3 [(0, .ref o), (1, .int x1), (2, .int x2)] → W p l e R s m args below meth c H locs 0 0 QQ (F0 m 44 ls []) := by
            intro  n44
            induction n44 with
            | zero => intro σ x2 hw; exact hw.elim
            | succ n44 ih44 =>
              intro σ x2 hw H locs ls hR hS hl
              rw [wM_takesDown_l44] at hw
              refine lv_iload_n hx hb dX2_takesDown_44 rfl (lv_at hl 2 rfl) ?_
              refine lv_bipush (v := 7) hx hb dX2_takesDown_45 (by decide) ?_
              refine lv_icmp_ge (tgt := 81) hx hb dX2_takesDown_47 (by decide) (fun c_47 => ?_) (fun c_47 => ?_)
              · have hw := hw.1 c_47
                refine lv_aload_n hx hb dX2_takesDown_81 rfl (lv_at hl 0 rfl) ?_
                refine lv_aload_n hx hb dX2_takesDown_82 rfl (lv_at hl 0 rfl) ?_
                refine mg_56 hx hb hts hown hE hR dX2_takesDown_83 ?_
                refine lv_aload_n hx hb dX2_takesDown_86 rfl (lv_at hl 0 rfl) ?_
                refine mg_34 hx hb hts hown hE hR dX2_takesDown_87 ?_
                refine lv_aload_n hx hb dX2_takesDown_90 rfl (lv_at hl 0 rfl) ?_
                refine mg_54 hx hb hts hown hE hR dX2_takesDown_91 ?_
                refine lv_iload_n hx hb dX2_takesDown_94 rfl (lv_at hl 1 rfl) ?_
                obtain ⟨hi_95, hw⟩ := hw
                refine ma_54 hx hb hE hR hi_95 dX2_takesDown_95 ?_
                obtain ⟨hi_96, hw⟩ := hw
                refine ma_34 hx hb hE hR hi_96 dX2_takesDown_96 ?_
                refine lv_imul hx hb dX2_takesDown_97 ?_
                refine lv_aload_n hx hb dX2_takesDown_98 rfl (lv_at hl 0 rfl) ?_
                refine mg_0 hx hb hts hown hE hR dX2_takesDown_99 ?_
                obtain ⟨hz_102, hw⟩ := hw
                refine lv_irem hx hb dX2_takesDown_102 hz_102 ?_
                refine mp_56 hx hb hts hown hE hap hR hS dX2_takesDown_103 (fun σ103 e_σ103 H locs hR hS => ?_)
                have hw := hw σ103 e_σ103
                clear e_σ103
                refine lv_goto (tgt := 12) hx hb dX2_takesDown_106 (by decide) ?_
                exact ih12 σ103 hw H locs ls hR hS (lv_sub hl [0, 1] rfl)
              · have hw := hw.2 c_47
                refine lv_aload_n hx hb dX2_takesDown_50 rfl (lv_at hl 0 rfl) ?_
                refine mg_55 hx hb hts hown hE hR dX2_takesDown_51 ?_
                refine lv_iload_n hx hb dX2_takesDown_54 rfl (lv_at hl 2 rfl) ?_
                refine lv_dup2_11 hx hb dX2_takesDown_55 rfl rfl ?_
                obtain ⟨hi_56, hw⟩ := hw
                refine ma_55 hx hb hE hR hi_56 dX2_takesDown_56 ?_
                refine lv_aload_n hx hb dX2_takesDown_57 rfl (lv_at hl 0 rfl) ?_
                refine mg_35 hx hb hts hown hE hR dX2_takesDown_58 ?_
                refine lv_bipush (v := 7) hx hb dX2_takesDown_61 (by decide) ?_
                refine lv_aload_n hx hb dX2_takesDown_63 rfl (lv_at hl 0 rfl) ?_
                refine mg_54 hx hb hts hown hE hR dX2_takesDown_64 ?_
                refine lv_iload_n hx hb dX2_takesDown_67 rfl (lv_at hl 1 rfl) ?_
                obtain ⟨hi_68, hw⟩ := hw
                refine ma_54 hx hb hE hR hi_68 dX2_takesDown_68 ?_
                refine lv_imul hx hb dX2_takesDown_69 ?_
                refine lv_iload_n hx hb dX2_takesDown_70 rfl (lv_at hl 2 rfl) ?_
                refine lv_iadd hx hb dX2_takesDown_71 ?_
                obtain ⟨hi_72, hw⟩ := hw
                refine ma_35 hx hb hE hR hi_72 dX2_takesDown_72 ?_
                refine lv_iadd hx hb dX2_takesDown_73 ?_
                obtain ⟨hi_74, hw⟩ := hw
                refine mst_55 hx hb hE hap hR hS hi_74 dX2_takesDown_74 (fun σ74 e_σ74 H locs hR hS => ?_)
                have hw := hw σ74 e_σ74
                clear e_σ74
                refine lv_iinc (k := 2) (lv' := [(2, .int (x2 + 1)), (0, .ref o), (1, .int x1)]) hx hb dX2_takesDown_75 hl rfl (congrArg (x2 + ·) (by decide : Int32.ofInt 1 = 1)) (by decide) rfl (fun ls hl => ?_)
                refine lv_goto (tgt := 44) hx hb dX2_takesDown_78 (by decide) ?_
                exact ih44 σ74 (x2 + 1) hw H locs ls hR hS (lv_sub hl [1, 2, 0] rfl)
          intro σ hw H locs ls hR hS hl
          rw [wM_takesDown_l12] at hw
          refine lv_aload_n hx hb dX2_takesDown_12 rfl (lv_at hl 0 rfl) ?_
          refine mg_55 hx hb hts hown hE hR dX2_takesDown_13 ?_
          refine lv_iload_n hx hb dX2_takesDown_16 rfl (lv_at hl 1 rfl) ?_
          obtain ⟨hi_17, hw⟩ := hw
          refine ma_55 hx hb hE hR hi_17 dX2_takesDown_17 ?_
          refine lv_aload_n hx hb dX2_takesDown_18 rfl (lv_at hl 0 rfl) ?_
          refine mg_50 hx hb hts hown hE hR dX2_takesDown_19 ?_
          refine lv_iload_n hx hb dX2_takesDown_22 rfl (lv_at hl 1 rfl) ?_
          obtain ⟨hi_23, hw⟩ := hw
          refine ma_50 hx hb hE hR hi_23 dX2_takesDown_23 ?_
          refine lv_icmp_lt (tgt := 109) hx hb dX2_takesDown_24 (by decide) (fun c_24 => ?_) (fun c_24 => ?_)
          · have hw := hw.1 c_24
            refine lv_iinc (k := 1) (lv' := [(1, .int (x1 + (-1))), (0, .ref o)]) hx hb dX2_takesDown_109 hl rfl (congrArg (x1 + ·) (by decide : Int32.ofInt (-1) = (-1))) (by decide) rfl (fun ls hl => ?_)
            refine lv_goto (tgt := 7) hx hb dX2_takesDown_112 (by decide) ?_
            exact ih7 σ (x1 + (-1)) hw H locs ls hR hS (lv_sub hl [1, 0] rfl)
          · have hw := hw.2 c_24
            refine lv_aload_n hx hb dX2_takesDown_27 rfl (lv_at hl 0 rfl) ?_
            refine mg_55 hx hb hts hown hE hR dX2_takesDown_28 ?_
            refine lv_iload_n hx hb dX2_takesDown_31 rfl (lv_at hl 1 rfl) ?_
            refine lv_dup2_11 hx hb dX2_takesDown_32 rfl rfl ?_
            obtain ⟨hi_33, hw⟩ := hw
            refine ma_55 hx hb hE hR hi_33 dX2_takesDown_33 ?_
            refine lv_aload_n hx hb dX2_takesDown_34 rfl (lv_at hl 0 rfl) ?_
            refine mg_50 hx hb hts hown hE hR dX2_takesDown_35 ?_
            refine lv_iload_n hx hb dX2_takesDown_38 rfl (lv_at hl 1 rfl) ?_
            obtain ⟨hi_39, hw⟩ := hw
            refine ma_50 hx hb hE hR hi_39 dX2_takesDown_39 ?_
            refine lv_isub hx hb dX2_takesDown_40 ?_
            obtain ⟨hi_41, hw⟩ := hw
            refine mst_55 hx hb hE hap hR hS hi_41 dX2_takesDown_41 (fun σ41 e_σ41 H locs hR hS => ?_)
            have hw := hw σ41 e_σ41
            clear e_σ41
            refine lv_iconst (v := 0) hx hb dX2_takesDown_42 (by decide) ?_
            refine lv_istore_n (lv' := [(2, .int 0), (0, .ref o), (1, .int x1)]) hx hb dX2_takesDown_43 rfl hl (by decide) rfl (fun ls hl => ?_)
            obtain ⟨n44, hw⟩ := hw
            exact hL44  n44 σ41 (0 : Int32) hw H locs ls hR hS (lv_sub hl [1, 2, 0] rfl)
      intro σ x1 hw H locs ls hR hS hl
      rw [wM_takesDown_l7] at hw
      refine lv_iload_n hx hb dX2_takesDown_7 rfl (lv_at hl 1 rfl) ?_
      refine lv_iconst (v := 1) hx hb dX2_takesDown_8 (by decide) ?_
      refine lv_icmp_lt (tgt := 115) hx hb dX2_takesDown_9 (by decide) (fun c_9 => ?_) (fun c_9 => ?_)
      · have hw := hw.1 c_9
        exact hret _ _ _ _ _ hw hR hS dX2_takesDown_115
      · have hw := hw.2 c_9
        obtain ⟨n12, hw⟩ := hw
        exact hL12 x1 n12 σ hw H locs ls hR hS (lv_sub hl [0, 1] rfl)
  intro H ls hR hS hl
  have hl : lv_has ls 3 [(0, .ref o)] := hl
  generalize ([] : List Loc) = locs at hS ⊢
  unfold wM_takesDown at hw
  refine lv_aload_n hx hb dX2_takesDown_0 rfl (lv_at hl 0 rfl) ?_
  refine mg_49 hx hb hts hown hE hR dX2_takesDown_1 ?_
  refine lv_iconst (v := 1) hx hb dX2_takesDown_4 (by decide) ?_
  refine lv_isub hx hb dX2_takesDown_5 ?_
  refine lv_istore_n (lv' := [(1, .int ((mgi σ 49) - 1)), (0, .ref o)]) hx hb dX2_takesDown_6 rfl hl (by decide) rfl (fun ls hl => ?_)
  obtain ⟨n7, hw⟩ := hw
  exact hL7  n7 σ ((mgi σ 49) - 1) hw H locs ls hR hS (lv_sub hl [1, 0] rfl)
def wM_residualAt_l25  (Q : Int32 → mS → Prop)  (x2 : Int32) (x4 : Int32) : Nat → mS → Int32 → Prop
  | 0, _, _ => False
  | n + 1, σ, x6 => (((7 : Int32) ≤ x6 → wM_takesDown σ  (fun σ64 => Q (mgi σ64 56) σ64)) ∧ (¬ (7 : Int32) ≤ x6 → vp_in x6 7 ∧ (vp_in ((7 * x2) + x6) 448 ∧ (vp_in x6 7 ∧ (∀ σ56 : mS, σ56 = mpa σ 55 x6.toNatClampNeg ((mga σ 55 x6.toNatClampNeg) + (x4 * (mga σ 42 ((7 * x2) + x6).toNatClampNeg))) → wM_residualAt_l25  Q  x2 x4 n σ56 (x6 + 1))))))
def wM_residualAt (σ : mS) (x1 : Int32) (x2 : Int32) (x3 : Int32) (x4 : Int32) (Q : Int32 → mS → Prop) : Prop :=
  wM_laysRow σ x1 (fun σ2 => vp_in (mgi σ2 49) 8 ∧ (wM_head σ2 (x3 * (mga σ2 51 (mgi σ2 49).toNatClampNeg)) (fun r17 σ17 => (∃ k25 : Nat, wM_residualAt_l25  Q  x2 x4 k25 σ17 (0 : Int32)))))
set_option maxHeartbeats 4000000 in
theorem mM_residualAt (l : Launch) (G : mG) (o : Nat) (ρ : Nat → Nat) (hap : mAp o ρ) (σ : mS) (x1 : Int32) (x2 : Int32) (x3 : Int32) (x4 : Int32) (Q : Int32 → mS → Prop) (hw : wM_residualAt σ x1 x2 x3 x4 Q) : mMetI l G yX2_residualAt (ws_ yX2_residualAt cX2_residualAt 7 (some .int)) 3 78 o ρ [.ref o, .int x1, .int x2, .int x3, .int x4] σ Q := by
  refine mo_I plain2 rfl (Nat.le_of_ble_eq_true rfl) ?_
  intro p e s R m args below meth c QQ X hRf hRl hret
  obtain ⟨hx, hb, hml, hown, hts, hE⟩ := id X
  have hL25 : ∀ (x2 : Int32) (x4 : Int32) (n25 : Nat) (σ : mS) (x6 : Int32), wM_residualAt_l25  Q  x2 x4 n25 σ x6 → ∀ (H : Heap) (locs : List Loc) (ls : Array Slot), mR G o ρ σ H → va_S (mA o ρ) s.heap H locs → lv_has ls 7 [(0, .ref o), (2, .int x2), (4, .int x4), (6, .int x6)] → W p l e R s m args below meth c H locs 0 0 QQ (F0 m 25 ls []) := by
    intro x2 x4 n25
    induction n25 with
    | zero => intro σ x6 hw; exact hw.elim
    | succ n25 ih25 =>
      intro σ x6 hw H locs ls hR hS hl
      rw [wM_residualAt_l25] at hw
      refine lv_iload hx hb dX2_residualAt_25 (lv_at hl 3 rfl) ?_
      refine lv_bipush (v := 7) hx hb dX2_residualAt_27 (by decide) ?_
      refine lv_icmp_ge (tgt := 63) hx hb dX2_residualAt_29 (by decide) (fun c_29 => ?_) (fun c_29 => ?_)
      · have hw := hw.1 c_29
        refine lv_aload_n hx hb dX2_residualAt_63 rfl (lv_at hl 0 rfl) ?_
        refine mc_vv (As := []) (rest := []) X (mM_takesDown l G o ρ hap σ  _ hw) (lw_V q2430 q2432 qs86 q_ini2 q2433) hd2_takesDown (mm_le hRf rfl) (mm_le hRl rfl) rfl rfl (Nat.le_of_ble_eq_true rfl) dX2_residualAt_64 hR hS hl.1 (fun σ64 H locs hw hR hS => ?_)
        refine lv_aload_n hx hb dX2_residualAt_67 rfl (lv_at hl 0 rfl) ?_
        refine mg_56 hx hb hts hown hE hR dX2_residualAt_68 ?_
        exact hret _ _ _ _ _ _ hw hR hS dX2_residualAt_71
      · have hw := hw.2 c_29
        refine lv_aload_n hx hb dX2_residualAt_32 rfl (lv_at hl 0 rfl) ?_
        refine mg_55 hx hb hts hown hE hR dX2_residualAt_33 ?_
        refine lv_iload hx hb dX2_residualAt_36 (lv_at hl 3 rfl) ?_
        refine lv_dup2_11 hx hb dX2_residualAt_38 rfl rfl ?_
        obtain ⟨hi_39, hw⟩ := hw
        refine ma_55 hx hb hE hR hi_39 dX2_residualAt_39 ?_
        refine lv_iload hx hb dX2_residualAt_40 (lv_at hl 2 rfl) ?_
        refine lv_aload_n hx hb dX2_residualAt_42 rfl (lv_at hl 0 rfl) ?_
        refine mg_42 hx hb hts hown hE hR dX2_residualAt_43 ?_
        refine lv_bipush (v := 7) hx hb dX2_residualAt_46 (by decide) ?_
        refine lv_iload_n hx hb dX2_residualAt_48 rfl (lv_at hl 1 rfl) ?_
        refine lv_imul hx hb dX2_residualAt_49 ?_
        refine lv_iload hx hb dX2_residualAt_50 (lv_at hl 3 rfl) ?_
        refine lv_iadd hx hb dX2_residualAt_52 ?_
        obtain ⟨hi_53, hw⟩ := hw
        refine ma_42 hx hb hE hR hi_53 dX2_residualAt_53 ?_
        refine lv_imul hx hb dX2_residualAt_54 ?_
        refine lv_iadd hx hb dX2_residualAt_55 ?_
        obtain ⟨hi_56, hw⟩ := hw
        refine mst_55 hx hb hE hap hR hS hi_56 dX2_residualAt_56 (fun σ56 e_σ56 H locs hR hS => ?_)
        have hw := hw σ56 e_σ56
        clear e_σ56
        refine lv_iinc (k := 3) (lv' := [(6, .int (x6 + 1)), (0, .ref o), (2, .int x2), (4, .int x4)]) hx hb dX2_residualAt_57 hl rfl (congrArg (x6 + ·) (by decide : Int32.ofInt 1 = 1)) (by decide) rfl (fun ls hl => ?_)
        refine lv_goto (tgt := 25) hx hb dX2_residualAt_60 (by decide) ?_
        exact ih25 σ56 (x6 + 1) hw H locs ls hR hS (lv_sub hl [1, 2, 3, 0] rfl)
  intro H ls hR hS hl
  have hl : lv_has ls 7 [(0, .ref o), (1, .int x1), (2, .int x2), (3, .int x3), (4, .int x4)] := hl
  generalize ([] : List Loc) = locs at hS ⊢
  unfold wM_residualAt at hw
  refine lv_aload_n hx hb dX2_residualAt_0 rfl (lv_at hl 0 rfl) ?_
  refine lv_iload_n hx hb dX2_residualAt_1 rfl (lv_at hl 1 rfl) ?_
  refine mc_vv (As := [.int x1]) (rest := []) X (mM_laysRow l G o ρ hap σ x1 _ hw) (lw_V q2383 q2385 qs75 q_ini2 q2386) hd2_laysRow (mm_le hRf rfl) (mm_le hRl rfl) rfl rfl (Nat.le_of_ble_eq_true rfl) dX2_residualAt_2 hR hS hl.1 (fun σ2 H locs hw hR hS => ?_)
  refine lv_aload_n hx hb dX2_residualAt_5 rfl (lv_at hl 0 rfl) ?_
  refine lv_iload_n hx hb dX2_residualAt_6 rfl (lv_at hl 3 rfl) ?_
  refine lv_aload_n hx hb dX2_residualAt_7 rfl (lv_at hl 0 rfl) ?_
  refine mg_51 hx hb hts hown hE hR dX2_residualAt_8 ?_
  refine lv_aload_n hx hb dX2_residualAt_11 rfl (lv_at hl 0 rfl) ?_
  refine mg_49 hx hb hts hown hE hR dX2_residualAt_12 ?_
  obtain ⟨hi_15, hw⟩ := hw
  refine ma_51 hx hb hE hR hi_15 dX2_residualAt_15 ?_
  refine lv_imul hx hb dX2_residualAt_16 ?_
  refine mc_vi (As := [.int (x3 * (mga σ2 51 (mgi σ2 49).toNatClampNeg))]) (rest := []) X (mM_head l G o ρ hap σ2 (x3 * (mga σ2 51 (mgi σ2 49).toNatClampNeg)) _ hw) (lw_V q2387 q2389 qs76 q_ini2 q2390) hd2_head (mm_le hRf rfl) (mm_le hRl rfl) rfl rfl (Nat.le_of_ble_eq_true rfl) dX2_residualAt_17 hR hS hl.1 (fun r17 σ17 H locs hw hR hS => ?_)
  refine lv_istore (lv' := [(5, .int r17), (0, .ref o), (1, .int x1), (2, .int x2), (3, .int x3), (4, .int x4)]) hx hb dX2_residualAt_20 hl (by decide) rfl (fun ls hl => ?_)
  refine lv_iconst (v := 0) hx hb dX2_residualAt_22 (by decide) ?_
  refine lv_istore (lv' := [(6, .int 0), (5, .int r17), (0, .ref o), (1, .int x1), (2, .int x2), (3, .int x3), (4, .int x4)]) hx hb dX2_residualAt_23 hl (by decide) rfl (fun ls hl => ?_)
  obtain ⟨n25, hw⟩ := hw
  exact hL25 x2 x4 n25 σ17 (0 : Int32) hw H locs ls hR hS (lv_sub hl [2, 4, 6, 0] rfl)
def wM_laysSide_j245 (rec153 : mS → Int32 → Prop) (Q : mS → Prop) (σ : mS) (x1 : Int32) (x2 : Int32) (x4 : Int32) (x5 : Int32) (x6 : Int32) (x7 : Int32) (s0 : Int32) (s1 : Int32) : Prop :=
  vp_in s1 576 ∧ (∀ σ245 : mS, σ245 = mpa σ 43 s1.toNatClampNeg s0 → rec153 σ245 (x7 + 1))
def wM_laysSide_j211 (rec153 : mS → Int32 → Prop) (Q : mS → Prop) (σ : mS) (x1 : Int32) (x2 : Int32) (x4 : Int32) (x5 : Int32) (x6 : Int32) (x7 : Int32) (x8 : Int32) (s0 : Int32) : Prop :=
  ((s0 = 0 → (wM_laysSide_j245 rec153 Q σ x1 x2 x4 x5 x6 x7 (0 : Int32) ((9 * x4) + x7))) ∧ (¬ s0 = 0 → wM_residualAt σ x1 x4 x8 x7 (fun r238 σ238 => (wM_laysSide_j245 rec153 Q σ238 x1 x2 x4 x5 x6 x7 r238 ((9 * x4) + x7)))))
def wM_laysSide_j210 (rec153 : mS → Int32 → Prop) (Q : mS → Prop) (σ : mS) (x1 : Int32) (x2 : Int32) (x4 : Int32) (x5 : Int32) (x6 : Int32) (x7 : Int32) (x8 : Int32)  : Prop :=
  (wM_laysSide_j211 rec153 Q σ x1 x2 x4 x5 x6 x7 x8 (0 : Int32))
def wM_laysSide_l153  (Q : mS → Prop)  (x1 : Int32) (x2 : Int32) (x4 : Int32) (x5 : Int32) (x6 : Int32) : Nat → mS → Int32 → Prop
  | 0, _, _ => False
  | n + 1, σ, x7 => (((9 : Int32) ≤ x7 → ∀ σ259 : mS, σ259 = mpi σ 22 ((mgi σ 22) + 1) → Q σ259) ∧ (¬ (9 : Int32) ≤ x7 → vp_in x4 64 ∧ (((x6 < x7 → (wM_laysSide_j210 (fun z z7 => wM_laysSide_l153  Q  x1 x2 x4 x5 x6 n z z7) Q σ x1 x2 x4 x5 x6 x7 (x2 + (x7 * (mga σ 39 x4.toNatClampNeg))))) ∧ (¬ x6 < x7 → wM_point0 σ x1 (x2 + (x7 * (mga σ 39 x4.toNatClampNeg))) (fun r185 => wM_point0 σ x1 x2 (fun r191 => ¬ x6 = 0 ∧ (((r185 = (r191 - (x7 * (x5 / x6))) → (wM_laysSide_j211 (fun z z7 => wM_laysSide_l153  Q  x1 x2 x4 x5 x6 n z z7) Q σ x1 x2 x4 x5 x6 x7 (x2 + (x7 * (mga σ 39 x4.toNatClampNeg))) (1 : Int32))) ∧ (¬ r185 = (r191 - (x7 * (x5 / x6))) → (wM_laysSide_j210 (fun z z7 => wM_laysSide_l153  Q  x1 x2 x4 x5 x6 n z z7) Q σ x1 x2 x4 x5 x6 x7 (x2 + (x7 * (mga σ 39 x4.toNatClampNeg))))))))))))))
def wM_laysSide_l117  (Q : mS → Prop)  (x1 : Int32) (x2 : Int32) (x4 : Int32) (x5 : Int32) (x6 : Int32) : Nat → mS → Int32 → Prop
  | 0, _, _ => False
  | n + 1, σ, x7 => (((7 : Int32) ≤ x7 → (∃ k153 : Nat, wM_laysSide_l153  Q  x1 x2 x4 x5 x6 k153 σ (0 : Int32))) ∧ (¬ (7 : Int32) ≤ x7 → vp_in x7 7 ∧ (vp_in ((7 * x4) + x7) 448 ∧ (∀ σ143 : mS, σ143 = mpa σ 42 ((7 * x4) + x7).toNatClampNeg (mga σ 55 x7.toNatClampNeg) → wM_laysSide_l117  Q  x1 x2 x4 x5 x6 n σ143 (x7 + 1)))))
def wM_laysSide (σ : mS) (x1 : Int32) (x2 : Int32) (x3 : Int32) (Q : mS → Prop) : Prop :=
  wM_point0 σ x1 x2 (fun r9 => wM_point0 σ x1 x3 (fun r15 => wM_divisor (x3 - x2) (r9 - r15) (fun r26 => vp_in (mgi σ 22) 64 ∧ (∀ σ38 : mS, σ38 = mpa σ 36 (mgi σ 22).toNatClampNeg x2 → vp_in (mgi σ 22) 64 ∧ (∀ σ46 : mS, σ46 = mpa σ38 37 (mgi σ 22).toNatClampNeg x3 → vp_in (mgi σ 22) 64 ∧ (∀ σ55 : mS, σ55 = mpa σ46 38 (mgi σ 22).toNatClampNeg (r9 - r15) → vp_in (mgi σ 22) 64 ∧ (∀ σ64 : mS, σ64 = mpa σ55 40 (mgi σ 22).toNatClampNeg r26 → ¬ r26 = 0 ∧ (vp_in (mgi σ 22) 64 ∧ (∀ σ77 : mS, σ77 = mpa σ64 39 (mgi σ 22).toNatClampNeg ((x3 - x2) / r26) → vp_in (mgi σ 22) 64 ∧ (wM_lift σ77  (fun r92 => ¬ r26 = 0 ∧ (vp_in (mgi σ 22) 64 ∧ (∀ σ102 : mS, σ102 = mpa σ77 41 (mgi σ 22).toNatClampNeg (((mga σ77 39 (mgi σ 22).toNatClampNeg) * r92) + ((r9 - r15) / r26)) → vp_in (mgi σ 22) 64 ∧ (wM_laysMonomial σ102 (mga σ102 41 (mgi σ 22).toNatClampNeg) (fun σ111 => (∃ k117 : Nat, wM_laysSide_l117  Q  x1 x2 (mgi σ 22) (r9 - r15) r26 k117 σ111 (0 : Int32)))))))))))))))))
set_option maxHeartbeats 4000000 in
theorem mM_laysSide (l : Launch) (G : mG) (o : Nat) (ρ : Nat → Nat) (hap : mAp o ρ) (σ : mS) (x1 : Int32) (x2 : Int32) (x3 : Int32) (Q : mS → Prop) (hw : wM_laysSide σ x1 x2 x3 Q) : mMetV l G yX2_laysSide (ws_ yX2_laysSide cX2_laysSide 10 none) 4 104 o ρ [.ref o, .int x1, .int x2, .int x3] σ Q := by
  refine mo_V plain2 rfl (Nat.le_of_ble_eq_true rfl) ?_
  intro p e s R m args below meth c QQ X hRf hRl hret
  obtain ⟨hx, hb, hml, hown, hts, hE⟩ := id X
  have hL153 : ∀ (x1 : Int32) (x2 : Int32) (x4 : Int32) (x5 : Int32) (x6 : Int32) (n153 : Nat) (σ : mS) (x7 : Int32), wM_laysSide_l153  Q  x1 x2 x4 x5 x6 n153 σ x7 → ∀ (H : Heap) (locs : List Loc) (ls : Array Slot), mR G o ρ σ H → va_S (mA o ρ) s.heap H locs → lv_has ls 10 [(0, .ref o), (1, .int x1), (2, .int x2), (4, .int x4), (5, .int x5), (6, .int x6), (7, .int x7)] → W p l e R s m args below meth c H locs 0 0 QQ (F0 m 153 ls []) := by
    intro x1 x2 x4 x5 x6 n153
    induction n153 with
    | zero => intro σ x7 hw; exact hw.elim
    | succ n153 ih153 =>
      have hJ245 : ∀ (σ : mS) (x7 : Int32) (s0 : Int32) (s1 : Int32), wM_laysSide_j245 (wM_laysSide_l153  Q  x1 x2 x4 x5 x6 n153) Q σ x1 x2 x4 x5 x6 x7 s0 s1 → ∀ (H : Heap) (locs : List Loc) (ls : Array Slot), mR G o ρ σ H → va_S (mA o ρ) s.heap H locs → lv_has ls 10 [(0, .ref o), (1, .int x1), (2, .int x2), (4, .int x4), (5, .int x5), (6, .int x6), (7, .int x7)] → W p l e R s m args below meth c H locs 0 0 QQ (F0 m 245 ls [.int s0, .int s1, .ref (ρ 43)]) := by
        intro σ x7 s0 s1 hw H locs ls hR hS hl
        unfold wM_laysSide_j245 at hw
        obtain ⟨hi_245, hw⟩ := hw
        refine mst_43 hx hb hE hap hR hS hi_245 dX2_laysSide_245 (fun σ245 e_σ245 H locs hR hS => ?_)
        have hw := hw σ245 e_σ245
        clear e_σ245
        refine lv_iinc (k := 6) (lv' := [(7, .int (x7 + 1)), (0, .ref o), (1, .int x1), (2, .int x2), (4, .int x4), (5, .int x5), (6, .int x6)]) hx hb dX2_laysSide_246 hl rfl (congrArg (x7 + ·) (by decide : Int32.ofInt 1 = 1)) (by decide) rfl (fun ls hl => ?_)
        refine lv_goto (tgt := 153) hx hb dX2_laysSide_249 (by decide) ?_
        exact ih153 σ245 (x7 + 1) hw H locs ls hR hS (lv_sub hl [1, 2, 3, 4, 5, 6, 0] rfl)
      have hJ211 : ∀ (σ : mS) (x7 : Int32) (x8 : Int32) (s0 : Int32), wM_laysSide_j211 (wM_laysSide_l153  Q  x1 x2 x4 x5 x6 n153) Q σ x1 x2 x4 x5 x6 x7 x8 s0 → ∀ (H : Heap) (locs : List Loc) (ls : Array Slot), mR G o ρ σ H → va_S (mA o ρ) s.heap H locs → lv_has ls 10 [(0, .ref o), (1, .int x1), (2, .int x2), (4, .int x4), (5, .int x5), (6, .int x6), (7, .int x7), (8, .int x8)] → W p l e R s m args below meth c H locs 0 0 QQ (F0 m 211 ls [.int s0]) := by
        intro σ x7 x8 s0 hw H locs ls hR hS hl
        unfold wM_laysSide_j211 at hw
        refine lv_istore (lv' := [(9, .int s0), (0, .ref o), (1, .int x1), (2, .int x2), (4, .int x4), (5, .int x5), (6, .int x6), (7, .int x7), (8, .int x8)]) hx hb dX2_laysSide_211 hl (by decide) rfl (fun ls hl => ?_)
        refine lv_aload_n hx hb dX2_laysSide_213 rfl (lv_at hl 1 rfl) ?_
        refine mg_43 hx hb hts hown hE hR dX2_laysSide_214 ?_
        refine lv_bipush (v := 9) hx hb dX2_laysSide_217 (by decide) ?_
        refine lv_iload hx hb dX2_laysSide_219 (lv_at hl 4 rfl) ?_
        refine lv_imul hx hb dX2_laysSide_221 ?_
        refine lv_iload hx hb dX2_laysSide_222 (lv_at hl 7 rfl) ?_
        refine lv_iadd hx hb dX2_laysSide_224 ?_
        refine lv_iload hx hb dX2_laysSide_225 (lv_at hl 0 rfl) ?_
        refine lv_if_eq (tgt := 244) hx hb dX2_laysSide_227 (by decide) (fun c_227 => ?_) (fun c_227 => ?_)
        · have hw := hw.1 c_227
          refine lv_iconst (v := 0) hx hb dX2_laysSide_244 (by decide) ?_
          exact hJ245 σ x7 (0 : Int32) ((9 * x4) + x7) hw H locs ls hR hS (lv_sub hl [1, 2, 3, 4, 5, 6, 7] rfl)
        · have hw := hw.2 c_227
          refine lv_aload_n hx hb dX2_laysSide_230 rfl (lv_at hl 1 rfl) ?_
          refine lv_iload_n hx hb dX2_laysSide_231 rfl (lv_at hl 2 rfl) ?_
          refine lv_iload hx hb dX2_laysSide_232 (lv_at hl 4 rfl) ?_
          refine lv_iload hx hb dX2_laysSide_234 (lv_at hl 8 rfl) ?_
          refine lv_iload hx hb dX2_laysSide_236 (lv_at hl 7 rfl) ?_
          refine mc_vi (As := [.int x1, .int x4, .int x8, .int x7]) (rest := [.int ((9 * x4) + x7), .ref (ρ 43)]) X (mM_residualAt l G o ρ hap σ x1 x4 x8 x7 _ hw) (lw_V q2426 q2428 qs85 q_ini2 q2429) hd2_residualAt (mm_le hRf rfl) (mm_le hRl rfl) rfl rfl (Nat.le_of_ble_eq_true rfl) dX2_laysSide_238 hR hS hl.1 (fun r238 σ238 H locs hw hR hS => ?_)
          refine lv_goto (tgt := 245) hx hb dX2_laysSide_241 (by decide) ?_
          exact hJ245 σ238 x7 r238 ((9 * x4) + x7) hw H locs ls hR hS (lv_sub hl [1, 2, 3, 4, 5, 6, 7] rfl)
      have hJ210 : ∀ (σ : mS) (x7 : Int32) (x8 : Int32), wM_laysSide_j210 (wM_laysSide_l153  Q  x1 x2 x4 x5 x6 n153) Q σ x1 x2 x4 x5 x6 x7 x8 → ∀ (H : Heap) (locs : List Loc) (ls : Array Slot), mR G o ρ σ H → va_S (mA o ρ) s.heap H locs → lv_has ls 10 [(0, .ref o), (1, .int x1), (2, .int x2), (4, .int x4), (5, .int x5), (6, .int x6), (7, .int x7), (8, .int x8)] → W p l e R s m args below meth c H locs 0 0 QQ (F0 m 210 ls []) := by
        intro σ x7 x8 hw H locs ls hR hS hl
        unfold wM_laysSide_j210 at hw
        refine lv_iconst (v := 0) hx hb dX2_laysSide_210 (by decide) ?_
        exact hJ211 σ x7 x8 (0 : Int32) hw H locs ls hR hS (lv_sub hl [0, 1, 2, 3, 4, 5, 6, 7] rfl)
      intro σ x7 hw H locs ls hR hS hl
      rw [wM_laysSide_l153] at hw
      refine lv_iload hx hb dX2_laysSide_153 (lv_at hl 6 rfl) ?_
      refine lv_bipush (v := 9) hx hb dX2_laysSide_155 (by decide) ?_
      refine lv_icmp_ge (tgt := 252) hx hb dX2_laysSide_157 (by decide) (fun c_157 => ?_) (fun c_157 => ?_)
      · have hw := hw.1 c_157
        refine lv_aload_n hx hb dX2_laysSide_252 rfl (lv_at hl 0 rfl) ?_
        refine lv_dup hx hb dX2_laysSide_253 rfl ?_
        refine mg_22 hx hb hts hown hE hR dX2_laysSide_254 ?_
        refine lv_iconst (v := 1) hx hb dX2_laysSide_257 (by decide) ?_
        refine lv_iadd hx hb dX2_laysSide_258 ?_
        refine mp_22 hx hb hts hown hE hap hR hS dX2_laysSide_259 (fun σ259 e_σ259 H locs hR hS => ?_)
        have hw := hw σ259 e_σ259
        clear e_σ259
        exact hret _ _ _ _ _ hw hR hS dX2_laysSide_262
      · have hw := hw.2 c_157
        refine lv_iload_n hx hb dX2_laysSide_160 rfl (lv_at hl 2 rfl) ?_
        refine lv_iload hx hb dX2_laysSide_161 (lv_at hl 6 rfl) ?_
        refine lv_aload_n hx hb dX2_laysSide_163 rfl (lv_at hl 0 rfl) ?_
        refine mg_39 hx hb hts hown hE hR dX2_laysSide_164 ?_
        refine lv_iload hx hb dX2_laysSide_167 (lv_at hl 3 rfl) ?_
        obtain ⟨hi_169, hw⟩ := hw
        refine ma_39 hx hb hE hR hi_169 dX2_laysSide_169 ?_
        refine lv_imul hx hb dX2_laysSide_170 ?_
        refine lv_iadd hx hb dX2_laysSide_171 ?_
        refine lv_istore (lv' := [(8, .int (x2 + (x7 * (mga σ 39 x4.toNatClampNeg)))), (0, .ref o), (1, .int x1), (2, .int x2), (4, .int x4), (5, .int x5), (6, .int x6), (7, .int x7)]) hx hb dX2_laysSide_172 hl (by decide) rfl (fun ls hl => ?_)
        refine lv_iload hx hb dX2_laysSide_174 (lv_at hl 7 rfl) ?_
        refine lv_iload hx hb dX2_laysSide_176 (lv_at hl 6 rfl) ?_
        refine lv_icmp_gt (tgt := 210) hx hb dX2_laysSide_178 (by decide) (fun c_178 => ?_) (fun c_178 => ?_)
        · have hw := hw.1 c_178
          exact hJ210 σ x7 (x2 + (x7 * (mga σ 39 x4.toNatClampNeg))) hw H locs ls hR hS (lv_sub hl [1, 2, 3, 4, 5, 6, 7, 0] rfl)
        · have hw := hw.2 c_178
          refine lv_aload_n hx hb dX2_laysSide_181 rfl (lv_at hl 1 rfl) ?_
          refine lv_iload_n hx hb dX2_laysSide_182 rfl (lv_at hl 2 rfl) ?_
          refine lv_iload hx hb dX2_laysSide_183 (lv_at hl 0 rfl) ?_
          refine mc_vir (As := [.int x1, .int (x2 + (x7 * (mga σ 39 x4.toNatClampNeg)))]) (rest := []) X (mM_point0 l G o ρ hap σ x1 (x2 + (x7 * (mga σ 39 x4.toNatClampNeg))) _ hw) (lw_V q2407 q2409 qs81 q_ini2 q2410) hd2_point0 (mm_le hRf rfl) (mm_le hRl rfl) rfl rfl (Nat.le_of_ble_eq_true rfl) dX2_laysSide_185 hR hS hl.1 (fun r185 H locs hw hR hS => ?_)
          refine lv_aload_n hx hb dX2_laysSide_188 rfl (lv_at hl 1 rfl) ?_
          refine lv_iload_n hx hb dX2_laysSide_189 rfl (lv_at hl 2 rfl) ?_
          refine lv_iload_n hx hb dX2_laysSide_190 rfl (lv_at hl 3 rfl) ?_
          refine mc_vir (As := [.int x1, .int x2]) (rest := [.int r185]) X (mM_point0 l G o ρ hap σ x1 x2 _ hw) (lw_V q2407 q2409 qs81 q_ini2 q2410) hd2_point0 (mm_le hRf rfl) (mm_le hRl rfl) rfl rfl (Nat.le_of_ble_eq_true rfl) dX2_laysSide_191 hR hS hl.1 (fun r191 H locs hw hR hS => ?_)
          refine lv_iload hx hb dX2_laysSide_194 (lv_at hl 7 rfl) ?_
          refine lv_iload hx hb dX2_laysSide_196 (lv_at hl 5 rfl) ?_
          refine lv_iload hx hb dX2_laysSide_198 (lv_at hl 6 rfl) ?_
          obtain ⟨hz_200, hw⟩ := hw
          refine lv_idiv hx hb dX2_laysSide_200 hz_200 ?_
          refine lv_imul hx hb dX2_laysSide_201 ?_
          refine lv_isub hx hb dX2_laysSide_202 ?_
          refine lv_icmp_ne (tgt := 210) hx hb dX2_laysSide_203 (by decide) (fun c_203 => ?_) (fun c_203 => ?_)
          · have hw := hw.2 c_203
            exact hJ210 σ x7 (x2 + (x7 * (mga σ 39 x4.toNatClampNeg))) hw H locs ls hR hS (lv_sub hl [1, 2, 3, 4, 5, 6, 7, 0] rfl)
          · have hw := hw.1 c_203
            refine lv_iconst (v := 1) hx hb dX2_laysSide_206 (by decide) ?_
            refine lv_goto (tgt := 211) hx hb dX2_laysSide_207 (by decide) ?_
            exact hJ211 σ x7 (x2 + (x7 * (mga σ 39 x4.toNatClampNeg))) (1 : Int32) hw H locs ls hR hS (lv_sub hl [1, 2, 3, 4, 5, 6, 7, 0] rfl)
  have hL117 : ∀ (x1 : Int32) (x2 : Int32) (x4 : Int32) (x5 : Int32) (x6 : Int32) (n117 : Nat) (σ : mS) (x7 : Int32), wM_laysSide_l117  Q  x1 x2 x4 x5 x6 n117 σ x7 → ∀ (H : Heap) (locs : List Loc) (ls : Array Slot), mR G o ρ σ H → va_S (mA o ρ) s.heap H locs → lv_has ls 10 [(0, .ref o), (1, .int x1), (2, .int x2), (4, .int x4), (5, .int x5), (6, .int x6), (7, .int x7)] → W p l e R s m args below meth c H locs 0 0 QQ (F0 m 117 ls []) := by
    intro x1 x2 x4 x5 x6 n117
    induction n117 with
    | zero => intro σ x7 hw; exact hw.elim
    | succ n117 ih117 =>
      intro σ x7 hw H locs ls hR hS hl
      rw [wM_laysSide_l117] at hw
      refine lv_iload hx hb dX2_laysSide_117 (lv_at hl 6 rfl) ?_
      refine lv_bipush (v := 7) hx hb dX2_laysSide_119 (by decide) ?_
      refine lv_icmp_ge (tgt := 150) hx hb dX2_laysSide_121 (by decide) (fun c_121 => ?_) (fun c_121 => ?_)
      · have hw := hw.1 c_121
        refine lv_iconst (v := 0) hx hb dX2_laysSide_150 (by decide) ?_
        refine lv_istore (lv' := [(7, .int 0), (0, .ref o), (1, .int x1), (2, .int x2), (4, .int x4), (5, .int x5), (6, .int x6)]) hx hb dX2_laysSide_151 hl (by decide) rfl (fun ls hl => ?_)
        obtain ⟨n153, hw⟩ := hw
        exact hL153 x1 x2 x4 x5 x6 n153 σ (0 : Int32) hw H locs ls hR hS (lv_sub hl [1, 2, 3, 4, 5, 6, 0] rfl)
      · have hw := hw.2 c_121
        refine lv_aload_n hx hb dX2_laysSide_124 rfl (lv_at hl 0 rfl) ?_
        refine mg_42 hx hb hts hown hE hR dX2_laysSide_125 ?_
        refine lv_bipush (v := 7) hx hb dX2_laysSide_128 (by decide) ?_
        refine lv_iload hx hb dX2_laysSide_130 (lv_at hl 3 rfl) ?_
        refine lv_imul hx hb dX2_laysSide_132 ?_
        refine lv_iload hx hb dX2_laysSide_133 (lv_at hl 6 rfl) ?_
        refine lv_iadd hx hb dX2_laysSide_135 ?_
        refine lv_aload_n hx hb dX2_laysSide_136 rfl (lv_at hl 0 rfl) ?_
        refine mg_55 hx hb hts hown hE hR dX2_laysSide_137 ?_
        refine lv_iload hx hb dX2_laysSide_140 (lv_at hl 6 rfl) ?_
        obtain ⟨hi_142, hw⟩ := hw
        refine ma_55 hx hb hE hR hi_142 dX2_laysSide_142 ?_
        obtain ⟨hi_143, hw⟩ := hw
        refine mst_42 hx hb hE hap hR hS hi_143 dX2_laysSide_143 (fun σ143 e_σ143 H locs hR hS => ?_)
        have hw := hw σ143 e_σ143
        clear e_σ143
        refine lv_iinc (k := 6) (lv' := [(7, .int (x7 + 1)), (0, .ref o), (1, .int x1), (2, .int x2), (4, .int x4), (5, .int x5), (6, .int x6)]) hx hb dX2_laysSide_144 hl rfl (congrArg (x7 + ·) (by decide : Int32.ofInt 1 = 1)) (by decide) rfl (fun ls hl => ?_)
        refine lv_goto (tgt := 117) hx hb dX2_laysSide_147 (by decide) ?_
        exact ih117 σ143 (x7 + 1) hw H locs ls hR hS (lv_sub hl [1, 2, 3, 4, 5, 6, 0] rfl)
  intro H ls hR hS hl
  have hl : lv_has ls 10 [(0, .ref o), (1, .int x1), (2, .int x2), (3, .int x3)] := hl
  generalize ([] : List Loc) = locs at hS ⊢
  unfold wM_laysSide at hw
  refine lv_aload_n hx hb dX2_laysSide_0 rfl (lv_at hl 0 rfl) ?_
  refine mg_22 hx hb hts hown hE hR dX2_laysSide_1 ?_
  refine lv_istore (lv' := [(4, .int (mgi σ 22)), (0, .ref o), (1, .int x1), (2, .int x2), (3, .int x3)]) hx hb dX2_laysSide_4 hl (by decide) rfl (fun ls hl => ?_)
  refine lv_aload_n hx hb dX2_laysSide_6 rfl (lv_at hl 1 rfl) ?_
  refine lv_iload_n hx hb dX2_laysSide_7 rfl (lv_at hl 2 rfl) ?_
  refine lv_iload_n hx hb dX2_laysSide_8 rfl (lv_at hl 3 rfl) ?_
  refine mc_vir (As := [.int x1, .int x2]) (rest := []) X (mM_point0 l G o ρ hap σ x1 x2 _ hw) (lw_V q2407 q2409 qs81 q_ini2 q2410) hd2_point0 (mm_le hRf rfl) (mm_le hRl rfl) rfl rfl (Nat.le_of_ble_eq_true rfl) dX2_laysSide_9 hR hS hl.1 (fun r9 H locs hw hR hS => ?_)
  refine lv_aload_n hx hb dX2_laysSide_12 rfl (lv_at hl 1 rfl) ?_
  refine lv_iload_n hx hb dX2_laysSide_13 rfl (lv_at hl 2 rfl) ?_
  refine lv_iload_n hx hb dX2_laysSide_14 rfl (lv_at hl 4 rfl) ?_
  refine mc_vir (As := [.int x1, .int x3]) (rest := [.int r9]) X (mM_point0 l G o ρ hap σ x1 x3 _ hw) (lw_V q2407 q2409 qs81 q_ini2 q2410) hd2_point0 (mm_le hRf rfl) (mm_le hRl rfl) rfl rfl (Nat.le_of_ble_eq_true rfl) dX2_laysSide_15 hR hS hl.1 (fun r15 H locs hw hR hS => ?_)
  refine lv_isub hx hb dX2_laysSide_18 ?_
  refine lv_istore (lv' := [(5, .int (r9 - r15)), (4, .int (mgi σ 22)), (0, .ref o), (1, .int x1), (2, .int x2), (3, .int x3)]) hx hb dX2_laysSide_19 hl (by decide) rfl (fun ls hl => ?_)
  refine lv_iload_n hx hb dX2_laysSide_21 rfl (lv_at hl 5 rfl) ?_
  refine lv_iload_n hx hb dX2_laysSide_22 rfl (lv_at hl 4 rfl) ?_
  refine lv_isub hx hb dX2_laysSide_23 ?_
  refine lv_iload hx hb dX2_laysSide_24 (lv_at hl 0 rfl) ?_
  refine mc_si (As := [.int (x3 - x2), .int (r9 - r15)]) (rest := []) X (mM_divisor l (x3 - x2) (r9 - r15) _ hw) (lw_S q2419 q2420 q_ini2 q2421) hd2_divisor (mm_le hRf rfl) (mm_le hRl rfl) rfl rfl (Nat.le_of_ble_eq_true rfl) dX2_laysSide_26 hR hS hl.1 (fun r26 H locs hw hR hS => ?_)
  refine lv_istore (lv' := [(6, .int r26), (5, .int (r9 - r15)), (4, .int (mgi σ 22)), (0, .ref o), (1, .int x1), (2, .int x2), (3, .int x3)]) hx hb dX2_laysSide_29 hl (by decide) rfl (fun ls hl => ?_)
  refine lv_aload_n hx hb dX2_laysSide_31 rfl (lv_at hl 3 rfl) ?_
  refine mg_36 hx hb hts hown hE hR dX2_laysSide_32 ?_
  refine lv_iload hx hb dX2_laysSide_35 (lv_at hl 2 rfl) ?_
  refine lv_iload_n hx hb dX2_laysSide_37 rfl (lv_at hl 5 rfl) ?_
  obtain ⟨hi_38, hw⟩ := hw
  refine mst_36 hx hb hE hap hR hS hi_38 dX2_laysSide_38 (fun σ38 e_σ38 H locs hR hS => ?_)
  have hw := hw σ38 e_σ38
  clear e_σ38
  refine lv_aload_n hx hb dX2_laysSide_39 rfl (lv_at hl 3 rfl) ?_
  refine mg_37 hx hb hts hown hE hR dX2_laysSide_40 ?_
  refine lv_iload hx hb dX2_laysSide_43 (lv_at hl 2 rfl) ?_
  refine lv_iload_n hx hb dX2_laysSide_45 rfl (lv_at hl 6 rfl) ?_
  obtain ⟨hi_46, hw⟩ := hw
  refine mst_37 hx hb hE hap hR hS hi_46 dX2_laysSide_46 (fun σ46 e_σ46 H locs hR hS => ?_)
  have hw := hw σ46 e_σ46
  clear e_σ46
  refine lv_aload_n hx hb dX2_laysSide_47 rfl (lv_at hl 3 rfl) ?_
  refine mg_38 hx hb hts hown hE hR dX2_laysSide_48 ?_
  refine lv_iload hx hb dX2_laysSide_51 (lv_at hl 2 rfl) ?_
  refine lv_iload hx hb dX2_laysSide_53 (lv_at hl 1 rfl) ?_
  obtain ⟨hi_55, hw⟩ := hw
  refine mst_38 hx hb hE hap hR hS hi_55 dX2_laysSide_55 (fun σ55 e_σ55 H locs hR hS => ?_)
  have hw := hw σ55 e_σ55
  clear e_σ55
  refine lv_aload_n hx hb dX2_laysSide_56 rfl (lv_at hl 3 rfl) ?_
  refine mg_40 hx hb hts hown hE hR dX2_laysSide_57 ?_
  refine lv_iload hx hb dX2_laysSide_60 (lv_at hl 2 rfl) ?_
  refine lv_iload hx hb dX2_laysSide_62 (lv_at hl 0 rfl) ?_
  obtain ⟨hi_64, hw⟩ := hw
  refine mst_40 hx hb hE hap hR hS hi_64 dX2_laysSide_64 (fun σ64 e_σ64 H locs hR hS => ?_)
  have hw := hw σ64 e_σ64
  clear e_σ64
  refine lv_aload_n hx hb dX2_laysSide_65 rfl (lv_at hl 3 rfl) ?_
  refine mg_39 hx hb hts hown hE hR dX2_laysSide_66 ?_
  refine lv_iload hx hb dX2_laysSide_69 (lv_at hl 2 rfl) ?_
  refine lv_iload_n hx hb dX2_laysSide_71 rfl (lv_at hl 6 rfl) ?_
  refine lv_iload_n hx hb dX2_laysSide_72 rfl (lv_at hl 5 rfl) ?_
  refine lv_isub hx hb dX2_laysSide_73 ?_
  refine lv_iload hx hb dX2_laysSide_74 (lv_at hl 0 rfl) ?_
  obtain ⟨hz_76, hw⟩ := hw
  refine lv_idiv hx hb dX2_laysSide_76 hz_76 ?_
  obtain ⟨hi_77, hw⟩ := hw
  refine mst_39 hx hb hE hap hR hS hi_77 dX2_laysSide_77 (fun σ77 e_σ77 H locs hR hS => ?_)
  have hw := hw σ77 e_σ77
  clear e_σ77
  refine lv_aload_n hx hb dX2_laysSide_78 rfl (lv_at hl 3 rfl) ?_
  refine mg_41 hx hb hts hown hE hR dX2_laysSide_79 ?_
  refine lv_iload hx hb dX2_laysSide_82 (lv_at hl 2 rfl) ?_
  refine lv_aload_n hx hb dX2_laysSide_84 rfl (lv_at hl 3 rfl) ?_
  refine mg_39 hx hb hts hown hE hR dX2_laysSide_85 ?_
  refine lv_iload hx hb dX2_laysSide_88 (lv_at hl 2 rfl) ?_
  obtain ⟨hi_90, hw⟩ := hw
  refine ma_39 hx hb hE hR hi_90 dX2_laysSide_90 ?_
  refine lv_aload_n hx hb dX2_laysSide_91 rfl (lv_at hl 3 rfl) ?_
  refine mc_vir (As := []) (rest := [.int (mga σ77 39 (mgi σ 22).toNatClampNeg), .int (mgi σ 22), .ref (ρ 41)]) X (mM_lift l G o ρ hap σ77  _ hw) (lw_V q2399 q2401 qs79 q_ini2 q2402) hd2_lift (mm_le hRf rfl) (mm_le hRl rfl) rfl rfl (Nat.le_of_ble_eq_true rfl) dX2_laysSide_92 hR hS hl.1 (fun r92 H locs hw hR hS => ?_)
  refine lv_imul hx hb dX2_laysSide_95 ?_
  refine lv_iload hx hb dX2_laysSide_96 (lv_at hl 1 rfl) ?_
  refine lv_iload hx hb dX2_laysSide_98 (lv_at hl 0 rfl) ?_
  obtain ⟨hz_100, hw⟩ := hw
  refine lv_idiv hx hb dX2_laysSide_100 hz_100 ?_
  refine lv_iadd hx hb dX2_laysSide_101 ?_
  obtain ⟨hi_102, hw⟩ := hw
  refine mst_41 hx hb hE hap hR hS hi_102 dX2_laysSide_102 (fun σ102 e_σ102 H locs hR hS => ?_)
  have hw := hw σ102 e_σ102
  clear e_σ102
  refine lv_aload_n hx hb dX2_laysSide_103 rfl (lv_at hl 3 rfl) ?_
  refine lv_aload_n hx hb dX2_laysSide_104 rfl (lv_at hl 3 rfl) ?_
  refine mg_41 hx hb hts hown hE hR dX2_laysSide_105 ?_
  refine lv_iload hx hb dX2_laysSide_108 (lv_at hl 2 rfl) ?_
  obtain ⟨hi_110, hw⟩ := hw
  refine ma_41 hx hb hE hR hi_110 dX2_laysSide_110 ?_
  refine mc_vv (As := [.int (mga σ102 41 (mgi σ 22).toNatClampNeg)]) (rest := []) X (mM_laysMonomial l G o ρ hap σ102 (mga σ102 41 (mgi σ 22).toNatClampNeg) _ hw) (lw_V q2422 q2424 qs84 q_ini2 q2425) hd2_laysMonomial (mm_le hRf rfl) (mm_le hRl rfl) rfl rfl (Nat.le_of_ble_eq_true rfl) dX2_laysSide_111 hR hS hl.1 (fun σ111 H locs hw hR hS => ?_)
  refine lv_iconst (v := 0) hx hb dX2_laysSide_114 (by decide) ?_
  refine lv_istore (lv' := [(7, .int 0), (6, .int r26), (5, .int (r9 - r15)), (4, .int (mgi σ 22)), (0, .ref o), (1, .int x1), (2, .int x2), (3, .int x3)]) hx hb dX2_laysSide_115 hl (by decide) rfl (fun ls hl => ?_)
  obtain ⟨n117, hw⟩ := hw
  exact hL117 x1 x2 (mgi σ 22) (r9 - r15) r26 n117 σ111 (0 : Int32) hw H locs ls hR hS (lv_sub hl [4, 5, 6, 3, 2, 1, 0] rfl)
