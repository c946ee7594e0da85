/-! the model's methods: predicates and walks, printed (part 3) -/
set_option maxRecDepth 100000
def wM_laysSides_l155 (rec99 : mS → Int32 → Prop) (Q : mS → Prop)  (x1 : Int32) (x3 : Int32) (x4 : Int32) (x5 : Int32) (x6 : Int32) (x7 : Int32) : Nat → mS → Int32 → Prop
  | 0, _, _ => False
  | n + 1, σ, x8 => ((x6 ≤ x8 → rec99 σ x6) ∧ (¬ x6 ≤ x8 → ¬ (x6 - x5) = 0 ∧ (wM_point0 σ x1 x5 (fun r190 => ∀ v199 : Int32, v199 = ((r190 - (((((x7 * (x8 - x5)) + x6) - x5) - 1) / (x6 - x5))) - x4) → vp_in x1 40 ∧ (∀ y210_0 : Int32, y210_0 = (if v199 ≤ 0 then 0 else v199) → vp_in x1 40 ∧ (∀ σ220 : mS, σ220 = mpa σ 30 x1.toNatClampNeg ((mga σ 30 x1.toNatClampNeg) + y210_0) → wM_laysSides_l155 rec99 Q  x1 x3 x4 x5 x6 x7 n σ220 (x8 + 1)))))))
def wM_laysSides_l99  (Q : mS → Prop)  (x1 : Int32) (x3 : Int32) (x4 : Int32) : Nat → mS → Int32 → Prop
  | 0, _, _ => False
  | n + 1, σ, x5 => ((x3 ≤ x5 → vp_in x1 40 ∧ (vp_in x1 40 ∧ (∀ σ250 : mS, σ250 = mpa σ 28 x1.toNatClampNeg ((mgi σ 22) - (mga σ 27 x1.toNatClampNeg)) → Q σ250))) ∧ (¬ x3 ≤ x5 → wM_nextCorner σ x1 x5 x3 (fun r110 => wM_laysSide σ x1 x5 r110 (fun σ121 => wM_point0 σ121 x1 x5 (fun r128 => wM_point0 σ121 x1 r110 (fun r135 => ∀ y144_0 : Int32, y144_0 = (if (1 : Int32) ≤ x5 then x5 else 1) → (∃ k155 : Nat, wM_laysSides_l155 (fun z z5 => wM_laysSides_l99  Q  x1 x3 x4 n z z5) Q  x1 x3 x4 x5 r110 (r128 - r135) k155 σ121 y144_0)))))))
def wM_laysSides_j80 (rec29 : Int32 → Int32 → Prop) (Q : mS → Prop) (σ : mS) (x1 : Int32) (x2 : Int32) (x3 : Int32) (x4 : Int32)  : Prop :=
  rec29 x3 (x4 + 1)
def wM_laysSides_j75 (rec29 : Int32 → Int32 → Prop) (Q : mS → Prop) (σ : mS) (x1 : Int32) (x2 : Int32) (x4 : Int32)  : Prop :=
  rec29 x4 (x4 + 1)
def wM_laysSides_l29  (Q : mS → Prop) (σ : mS) (x1 : Int32) (x2 : Int32) : Nat → Int32 → Int32 → Prop
  | 0, _, _ => False
  | n + 1, x3, x4 => vp_in x1 40 ∧ ((((mga σ 25 x1.toNatClampNeg) < x4 → wM_point0 σ x1 x3 (fun r91 => (∃ k99 : Nat, wM_laysSides_l99  Q  x1 x3 r91 k99 σ x2))) ∧ (¬ (mga σ 25 x1.toNatClampNeg) < x4 → wM_point0 σ x1 x4 (fun r44 => ((r44 < 0 → (wM_laysSides_j80 (fun z3 z4 => wM_laysSides_l29  Q σ x1 x2 n z3 z4) Q σ x1 x2 x3 x4)) ∧ (¬ r44 < 0 → wM_point0 σ x1 x3 (fun r53 => ((r53 < 0 → (wM_laysSides_j75 (fun z3 z4 => wM_laysSides_l29  Q σ x1 x2 n z3 z4) Q σ x1 x2 x4)) ∧ (¬ r53 < 0 → wM_point0 σ x1 x4 (fun r63 => wM_point0 σ x1 x3 (fun r69 => ((r69 ≤ r63 → (wM_laysSides_j80 (fun z3 z4 => wM_laysSides_l29  Q σ x1 x2 n z3 z4) Q σ x1 x2 x3 x4)) ∧ (¬ r69 ≤ r63 → (wM_laysSides_j75 (fun z3 z4 => wM_laysSides_l29  Q σ x1 x2 n z3 z4) Q σ x1 x2 x4))))))))))))))
def wM_laysSides (σ : mS) (x1 : Int32) (Q : mS → Prop) : Prop :=
  vp_in x1 40 ∧ (∀ σ9 : mS, σ9 = mpa σ 27 x1.toNatClampNeg (mgi σ 22) → vp_in x1 40 ∧ (∀ σ16 : mS, σ16 = mpa σ9 30 x1.toNatClampNeg 0 → vp_in x1 40 ∧ ((∃ k29 : Nat, wM_laysSides_l29  Q σ16 x1 (mga σ16 29 x1.toNatClampNeg) k29 (mga σ16 29 x1.toNatClampNeg) (mga σ16 29 x1.toNatClampNeg)))))
set_option maxHeartbeats 4000000 in
theorem mM_laysSides (l : Launch) (G : mG) (o : Nat) (ρ : Nat → Nat) (hap : mAp o ρ) (σ : mS) (x1 : Int32) (Q : mS → Prop) (hw : wM_laysSides σ x1 Q) : mMetV l G yX2_laysSides (ws_ yX2_laysSides cX2_laysSides 11 none) 5 133 o ρ [.ref o, .int x1] σ Q := by
  refine mo_V plain2 rfl (Nat.le_of_ble_eq_true rfl) ?_
  intro p e s R m args below meth c QQ X hRf hRl hret
  obtain ⟨hx, hb, hml, hown, hts, hE⟩ := id X
  have hL99 : ∀ (x1 : Int32) (x3 : Int32) (x4 : Int32) (n99 : Nat) (σ : mS) (x5 : Int32), wM_laysSides_l99  Q  x1 x3 x4 n99 σ x5 → ∀ (H : Heap) (locs : List Loc) (ls : Array Slot), mR G o ρ σ H → va_S (mA o ρ) s.heap H locs → lv_has ls 11 [(0, .ref o), (1, .int x1), (3, .int x3), (4, .int x4), (5, .int x5)] → W p l e R s m args below meth c H locs 0 0 QQ (F0 m 99 ls []) := by
    intro x1 x3 x4 n99
    induction n99 with
    | zero => intro σ x5 hw; exact hw.elim
    | succ n99 ih99 =>
      have hL155 : ∀ (x5 : Int32) (x6 : Int32) (x7 : Int32) (n155 : Nat) (σ : mS) (x8 : Int32), wM_laysSides_l155 (wM_laysSides_l99  Q  x1 x3 x4 n99) Q  x1 x3 x4 x5 x6 x7 n155 σ x8 → ∀ (H : Heap) (locs : List Loc) (ls : Array Slot), mR G o ρ σ H → va_S (mA o ρ) s.heap H locs → lv_has ls 11 [(0, .ref o), (1, .int x1), (3, .int x3), (4, .int x4), (5, .int x5), (6, .int x6), (7, .int x7), (8, .int x8)] → W p l e R s m args below meth c H locs 0 0 QQ (F0 m 155 ls []) := by
        intro x5 x6 x7 n155
        induction n155 with
        | zero => intro σ x8 hw; exact hw.elim
        | succ n155 ih155 =>
          intro σ x8 hw H locs ls hR hS hl
          rw [wM_laysSides_l155] at hw
          refine lv_iload hx hb dX2_laysSides_155 (lv_at hl 7 rfl) ?_
          refine lv_iload hx hb dX2_laysSides_157 (lv_at hl 5 rfl) ?_
          refine lv_icmp_ge (tgt := 227) hx hb dX2_laysSides_159 (by decide) (fun c_159 => ?_) (fun c_159 => ?_)
          · have hw := hw.1 c_159
            refine lv_iload hx hb dX2_laysSides_227 (lv_at hl 5 rfl) ?_
            refine lv_istore (lv' := [(5, .int x6), (0, .ref o), (1, .int x1), (3, .int x3), (4, .int x4), (6, .int x6), (7, .int x7), (8, .int x8)]) hx hb dX2_laysSides_229 hl (by decide) rfl (fun ls hl => ?_)
            refine lv_goto (tgt := 99) hx hb dX2_laysSides_231 (by decide) ?_
            exact ih99 σ x6 hw H locs ls hR hS (lv_sub hl [1, 2, 3, 4, 0] rfl)
          · have hw := hw.2 c_159
            refine lv_iload hx hb dX2_laysSides_162 (lv_at hl 6 rfl) ?_
            refine lv_iload hx hb dX2_laysSides_164 (lv_at hl 7 rfl) ?_
            refine lv_iload hx hb dX2_laysSides_166 (lv_at hl 4 rfl) ?_
            refine lv_isub hx hb dX2_laysSides_168 ?_
            refine lv_imul hx hb dX2_laysSides_169 ?_
            refine lv_iload hx hb dX2_laysSides_170 (lv_at hl 5 rfl) ?_
            refine lv_iadd hx hb dX2_laysSides_172 ?_
            refine lv_iload hx hb dX2_laysSides_173 (lv_at hl 4 rfl) ?_
            refine lv_isub hx hb dX2_laysSides_175 ?_
            refine lv_iconst (v := 1) hx hb dX2_laysSides_176 (by decide) ?_
            refine lv_isub hx hb dX2_laysSides_177 ?_
            refine lv_iload hx hb dX2_laysSides_178 (lv_at hl 5 rfl) ?_
            refine lv_iload hx hb dX2_laysSides_180 (lv_at hl 4 rfl) ?_
            refine lv_isub hx hb dX2_laysSides_182 ?_
            obtain ⟨hz_183, hw⟩ := hw
            refine lv_idiv hx hb dX2_laysSides_183 hz_183 ?_
            refine lv_istore (lv' := [(9, .int (((((x7 * (x8 - x5)) + x6) - x5) - 1) / (x6 - x5))), (0, .ref o), (1, .int x1), (3, .int x3), (4, .int x4), (5, .int x5), (6, .int x6), (7, .int x7), (8, .int x8)]) hx hb dX2_laysSides_184 hl (by decide) rfl (fun ls hl => ?_)
            refine lv_aload_n hx hb dX2_laysSides_186 rfl (lv_at hl 1 rfl) ?_
            refine lv_iload_n hx hb dX2_laysSides_187 rfl (lv_at hl 2 rfl) ?_
            refine lv_iload hx hb dX2_laysSides_188 (lv_at hl 5 rfl) ?_
            refine mc_vir (As := [.int x1, .int x5]) (rest := []) X (mM_point0 l G o ρ hap σ x1 x5 _ hw) (lw_V q2407 q2409 qs81 q_ini2 q2410) hd2_point0 (mm_le hRf rfl) (mm_le hRl rfl) rfl rfl (Nat.le_of_ble_eq_true rfl) dX2_laysSides_190 hR hS hl.1 (fun r190 H locs hw hR hS => ?_)
            refine lv_iload hx hb dX2_laysSides_193 (lv_at hl 0 rfl) ?_
            refine lv_isub hx hb dX2_laysSides_195 ?_
            refine lv_iload hx hb dX2_laysSides_196 (lv_at hl 4 rfl) ?_
            refine lv_isub hx hb dX2_laysSides_198 ?_
            refine lv_topi (fun v199 e_v199 => ?_)
            have hw := hw v199 e_v199
            refine lv_istore (lv' := [(10, .int v199), (9, .int (((((x7 * (x8 - x5)) + x6) - x5) - 1) / (x6 - x5))), (0, .ref o), (1, .int x1), (3, .int x3), (4, .int x4), (5, .int x5), (6, .int x6), (7, .int x7), (8, .int x8)]) hx hb dX2_laysSides_199 hl (by decide) rfl (fun ls hl => ?_)
            refine lv_aload_n hx hb dX2_laysSides_201 rfl (lv_at hl 2 rfl) ?_
            refine mg_30 hx hb hts hown hE hR dX2_laysSides_202 ?_
            refine lv_iload_n hx hb dX2_laysSides_205 rfl (lv_at hl 3 rfl) ?_
            refine lv_dup2_11 hx hb dX2_laysSides_206 rfl rfl ?_
            obtain ⟨hi_207, hw⟩ := hw
            refine ma_30 hx hb hE hR hi_207 dX2_laysSides_207 ?_
            refine lv_iload hx hb dX2_laysSides_208 (lv_at hl 0 rfl) ?_
            have hK210 : ∀ (y210_0 : Int32), y210_0 = (if v199 ≤ 0 then 0 else v199) → ∀ (ls : Array Slot), lv_has ls 11 [(0, .ref o), (1, .int x1), (3, .int x3), (4, .int x4), (5, .int x5), (6, .int x6), (7, .int x7), (8, .int x8)] → W p l e R s m args below meth c H locs 0 0 QQ (F0 m 219 ls [.int y210_0, .int (mga σ 30 x1.toNatClampNeg), .int x1, .ref (ρ 30)]) := by
              intro y210_0 e_y210_0 ls hl
              have hw := hw y210_0 e_y210_0
              refine lv_iadd hx hb dX2_laysSides_219 ?_
              obtain ⟨hi_220, hw⟩ := hw
              refine mst_30 hx hb hE hap hR hS hi_220 dX2_laysSides_220 (fun σ220 e_σ220 H locs hR hS => ?_)
              have hw := hw σ220 e_σ220
              clear e_σ220
              refine lv_iinc (k := 7) (lv' := [(8, .int (x8 + 1)), (0, .ref o), (1, .int x1), (3, .int x3), (4, .int x4), (5, .int x5), (6, .int x6), (7, .int x7)]) hx hb dX2_laysSides_221 hl rfl (congrArg (x8 + ·) (by decide : Int32.ofInt 1 = 1)) (by decide) rfl (fun ls hl => ?_)
              refine lv_goto (tgt := 155) hx hb dX2_laysSides_224 (by decide) ?_
              exact ih155 σ220 (x8 + 1) hw H locs ls hR hS (lv_sub hl [1, 2, 3, 4, 5, 6, 7, 0] rfl)
            refine lv_if_le (tgt := 218) hx hb dX2_laysSides_210 (by decide) (fun c_210 => ?_) (fun c_210 => ?_)
            · refine lv_iconst (v := 0) hx hb dX2_laysSides_218 (by decide) ?_
              exact hK210 _ (if_pos c_210).symm ls (lv_sub hl [2, 3, 4, 5, 6, 7, 8, 9] rfl)
            · refine lv_iload hx hb dX2_laysSides_213 (lv_at hl 0 rfl) ?_
              refine lv_goto (tgt := 219) hx hb dX2_laysSides_215 (by decide) ?_
              exact hK210 _ (if_neg c_210).symm ls (lv_sub hl [2, 3, 4, 5, 6, 7, 8, 9] rfl)
      intro σ x5 hw H locs ls hR hS hl
      rw [wM_laysSides_l99] at hw
      refine lv_iload hx hb dX2_laysSides_99 (lv_at hl 4 rfl) ?_
      refine lv_iload_n hx hb dX2_laysSides_101 rfl (lv_at hl 2 rfl) ?_
      refine lv_icmp_ge (tgt := 234) hx hb dX2_laysSides_102 (by decide) (fun c_102 => ?_) (fun c_102 => ?_)
      · have hw := hw.1 c_102
        refine lv_aload_n hx hb dX2_laysSides_234 rfl (lv_at hl 0 rfl) ?_
        refine mg_28 hx hb hts hown hE hR dX2_laysSides_235 ?_
        refine lv_iload_n hx hb dX2_laysSides_238 rfl (lv_at hl 1 rfl) ?_
        refine lv_aload_n hx hb dX2_laysSides_239 rfl (lv_at hl 0 rfl) ?_
        refine mg_22 hx hb hts hown hE hR dX2_laysSides_240 ?_
        refine lv_aload_n hx hb dX2_laysSides_243 rfl (lv_at hl 0 rfl) ?_
        refine mg_27 hx hb hts hown hE hR dX2_laysSides_244 ?_
        refine lv_iload_n hx hb dX2_laysSides_247 rfl (lv_at hl 1 rfl) ?_
        obtain ⟨hi_248, hw⟩ := hw
        refine ma_27 hx hb hE hR hi_248 dX2_laysSides_248 ?_
        refine lv_isub hx hb dX2_laysSides_249 ?_
        obtain ⟨hi_250, hw⟩ := hw
        refine mst_28 hx hb hE hap hR hS hi_250 dX2_laysSides_250 (fun σ250 e_σ250 H locs hR hS => ?_)
        have hw := hw σ250 e_σ250
        clear e_σ250
        exact hret _ _ _ _ _ hw hR hS dX2_laysSides_251
      · have hw := hw.2 c_102
        refine lv_aload_n hx hb dX2_laysSides_105 rfl (lv_at hl 0 rfl) ?_
        refine lv_iload_n hx hb dX2_laysSides_106 rfl (lv_at hl 1 rfl) ?_
        refine lv_iload hx hb dX2_laysSides_107 (lv_at hl 4 rfl) ?_
        refine lv_iload_n hx hb dX2_laysSides_109 rfl (lv_at hl 2 rfl) ?_
        refine mc_vir (As := [.int x1, .int x5, .int x3]) (rest := []) X (mM_nextCorner l G o ρ hap σ x1 x5 x3 _ hw) (lw_V q2411 q2413 qs82 q_ini2 q2414) hd2_nextCorner (mm_le hRf rfl) (mm_le hRl rfl) rfl rfl (Nat.le_of_ble_eq_true rfl) dX2_laysSides_110 hR hS hl.1 (fun r110 H locs hw hR hS => ?_)
        refine lv_istore (lv' := [(6, .int r110), (0, .ref o), (1, .int x1), (3, .int x3), (4, .int x4), (5, .int x5)]) hx hb dX2_laysSides_113 hl (by decide) rfl (fun ls hl => ?_)
        refine lv_aload_n hx hb dX2_laysSides_115 rfl (lv_at hl 1 rfl) ?_
        refine lv_iload_n hx hb dX2_laysSides_116 rfl (lv_at hl 2 rfl) ?_
        refine lv_iload hx hb dX2_laysSides_117 (lv_at hl 5 rfl) ?_
        refine lv_iload hx hb dX2_laysSides_119 (lv_at hl 0 rfl) ?_
        refine mc_vv (As := [.int x1, .int x5, .int r110]) (rest := []) X (mM_laysSide l G o ρ hap σ x1 x5 r110 _ hw) (lw_V q2415 q2417 qs83 q_ini2 q2418) hd2_laysSide (mm_le hRf rfl) (mm_le hRl rfl) rfl rfl (Nat.le_of_ble_eq_true rfl) dX2_laysSides_121 hR hS hl.1 (fun σ121 H locs hw hR hS => ?_)
        refine lv_aload_n hx hb dX2_laysSides_124 rfl (lv_at hl 1 rfl) ?_
        refine lv_iload_n hx hb dX2_laysSides_125 rfl (lv_at hl 2 rfl) ?_
        refine lv_iload hx hb dX2_laysSides_126 (lv_at hl 5 rfl) ?_
        refine mc_vir (As := [.int x1, .int x5]) (rest := []) X (mM_point0 l G o ρ hap σ121 x1 x5 _ hw) (lw_V q2407 q2409 qs81 q_ini2 q2410) hd2_point0 (mm_le hRf rfl) (mm_le hRl rfl) rfl rfl (Nat.le_of_ble_eq_true rfl) dX2_laysSides_128 hR hS hl.1 (fun r128 H locs hw hR hS => ?_)
        refine lv_aload_n hx hb dX2_laysSides_131 rfl (lv_at hl 1 rfl) ?_
        refine lv_iload_n hx hb dX2_laysSides_132 rfl (lv_at hl 2 rfl) ?_
        refine lv_iload hx hb dX2_laysSides_133 (lv_at hl 0 rfl) ?_
        refine mc_vir (As := [.int x1, .int r110]) (rest := [.int r128]) X (mM_point0 l G o ρ hap σ121 x1 r110 _ hw) (lw_V q2407 q2409 qs81 q_ini2 q2410) hd2_point0 (mm_le hRf rfl) (mm_le hRl rfl) rfl rfl (Nat.le_of_ble_eq_true rfl) dX2_laysSides_135 hR hS hl.1 (fun r135 H locs hw hR hS => ?_)
        refine lv_isub hx hb dX2_laysSides_138 ?_
        refine lv_istore (lv' := [(7, .int (r128 - r135)), (6, .int r110), (0, .ref o), (1, .int x1), (3, .int x3), (4, .int x4), (5, .int x5)]) hx hb dX2_laysSides_139 hl (by decide) rfl (fun ls hl => ?_)
        refine lv_iload hx hb dX2_laysSides_141 (lv_at hl 6 rfl) ?_
        refine lv_iconst (v := 1) hx hb dX2_laysSides_143 (by decide) ?_
        have hK144 : ∀ (y144_0 : Int32), y144_0 = (if (1 : Int32) ≤ x5 then x5 else 1) → ∀ (ls : Array Slot), lv_has ls 11 [(0, .ref o), (1, .int x1), (3, .int x3), (4, .int x4), (5, .int x5), (6, .int r110), (7, .int (r128 - r135))] → W p l e R s m args below meth c H locs 0 0 QQ (F0 m 153 ls [.int y144_0]) := by
          intro y144_0 e_y144_0 ls hl
          have hw := hw y144_0 e_y144_0
          refine lv_istore (lv' := [(8, .int y144_0), (0, .ref o), (1, .int x1), (3, .int x3), (4, .int x4), (5, .int x5), (6, .int r110), (7, .int (r128 - r135))]) hx hb dX2_laysSides_153 hl (by decide) rfl (fun ls hl => ?_)
          obtain ⟨n155, hw⟩ := hw
          exact hL155 x5 r110 (r128 - r135) n155 σ121 y144_0 hw H locs ls hR hS (lv_sub hl [1, 2, 3, 4, 5, 6, 7, 0] rfl)
        refine lv_icmp_ge (tgt := 151) hx hb dX2_laysSides_144 (by decide) (fun c_144 => ?_) (fun c_144 => ?_)
        · refine lv_iload hx hb dX2_laysSides_151 (lv_at hl 6 rfl) ?_
          exact hK144 _ (if_pos c_144).symm ls (lv_sub hl [2, 3, 4, 5, 6, 1, 0] rfl)
        · refine lv_iconst (v := 1) hx hb dX2_laysSides_147 (by decide) ?_
          refine lv_goto (tgt := 153) hx hb dX2_laysSides_148 (by decide) ?_
          exact hK144 _ (if_neg c_144).symm ls (lv_sub hl [2, 3, 4, 5, 6, 1, 0] rfl)
  have hL29 : ∀ (σ : mS) (x1 : Int32) (x2 : Int32) (n29 : Nat) (x3 : Int32) (x4 : Int32), wM_laysSides_l29  Q σ x1 x2 n29 x3 x4 → ∀ (H : Heap) (locs : List Loc) (ls : Array Slot), mR G o ρ σ H → va_S (mA o ρ) s.heap H locs → lv_has ls 11 [(0, .ref o), (1, .int x1), (2, .int x2), (3, .int x3), (4, .int x4)] → W p l e R s m args below meth c H locs 0 0 QQ (F0 m 29 ls []) := by
    intro σ x1 x2 n29
    induction n29 with
    | zero => intro x3 x4 hw; exact hw.elim
    | succ n29 ih29 =>
      have hJ80 : ∀ (x3 : Int32) (x4 : Int32), wM_laysSides_j80 (wM_laysSides_l29  Q σ x1 x2 n29) Q σ x1 x2 x3 x4 → ∀ (H : Heap) (locs : List Loc) (ls : Array Slot), mR G o ρ σ H → va_S (mA o ρ) s.heap H locs → lv_has ls 11 [(0, .ref o), (1, .int x1), (2, .int x2), (3, .int x3), (4, .int x4)] → W p l e R s m args below meth c H locs 0 0 QQ (F0 m 80 ls []) := by
        intro x3 x4 hw H locs ls hR hS hl
        unfold wM_laysSides_j80 at hw
        refine lv_iload_n hx hb dX2_laysSides_80 rfl (lv_at hl 3 rfl) ?_
        refine lv_istore_n (lv' := [(3, .int x3), (0, .ref o), (1, .int x1), (2, .int x2), (4, .int x4)]) hx hb dX2_laysSides_81 rfl hl (by decide) rfl (fun ls hl => ?_)
        refine lv_iinc (k := 4) (lv' := [(4, .int (x4 + 1)), (3, .int x3), (0, .ref o), (1, .int x1), (2, .int x2)]) hx hb dX2_laysSides_82 hl rfl (congrArg (x4 + ·) (by decide : Int32.ofInt 1 = 1)) (by decide) rfl (fun ls hl => ?_)
        refine lv_goto (tgt := 29) hx hb dX2_laysSides_85 (by decide) ?_
        exact ih29 x3 (x4 + 1) hw H locs ls hR hS (lv_sub hl [2, 3, 4, 1, 0] rfl)
      have hJ75 : ∀ (x4 : Int32), wM_laysSides_j75 (wM_laysSides_l29  Q σ x1 x2 n29) Q σ x1 x2 x4 → ∀ (H : Heap) (locs : List Loc) (ls : Array Slot), mR G o ρ σ H → va_S (mA o ρ) s.heap H locs → lv_has ls 11 [(0, .ref o), (1, .int x1), (2, .int x2), (4, .int x4)] → W p l e R s m args below meth c H locs 0 0 QQ (F0 m 75 ls []) := by
        intro x4 hw H locs ls hR hS hl
        unfold wM_laysSides_j75 at hw
        refine lv_iload hx hb dX2_laysSides_75 (lv_at hl 3 rfl) ?_
        refine lv_goto (tgt := 81) hx hb dX2_laysSides_77 (by decide) ?_
        refine lv_istore_n (lv' := [(3, .int x4), (0, .ref o), (1, .int x1), (2, .int x2), (4, .int x4)]) hx hb dX2_laysSides_81 rfl hl (by decide) rfl (fun ls hl => ?_)
        refine lv_iinc (k := 4) (lv' := [(4, .int (x4 + 1)), (3, .int x4), (0, .ref o), (1, .int x1), (2, .int x2)]) hx hb dX2_laysSides_82 hl rfl (congrArg (x4 + ·) (by decide : Int32.ofInt 1 = 1)) (by decide) rfl (fun ls hl => ?_)
        refine lv_goto (tgt := 29) hx hb dX2_laysSides_85 (by decide) ?_
        exact ih29 x4 (x4 + 1) hw H locs ls hR hS (lv_sub hl [2, 3, 4, 1, 0] rfl)
      intro x3 x4 hw H locs ls hR hS hl
      rw [wM_laysSides_l29] at hw
      refine lv_iload hx hb dX2_laysSides_29 (lv_at hl 4 rfl) ?_
      refine lv_aload_n hx hb dX2_laysSides_31 rfl (lv_at hl 0 rfl) ?_
      refine mg_25 hx hb hts hown hE hR dX2_laysSides_32 ?_
      refine lv_iload_n hx hb dX2_laysSides_35 rfl (lv_at hl 1 rfl) ?_
      obtain ⟨hi_36, hw⟩ := hw
      refine ma_25 hx hb hE hR hi_36 dX2_laysSides_36 ?_
      refine lv_icmp_gt (tgt := 88) hx hb dX2_laysSides_37 (by decide) (fun c_37 => ?_) (fun c_37 => ?_)
      · have hw := hw.1 c_37
        refine lv_aload_n hx hb dX2_laysSides_88 rfl (lv_at hl 0 rfl) ?_
        refine lv_iload_n hx hb dX2_laysSides_89 rfl (lv_at hl 1 rfl) ?_
        refine lv_iload_n hx hb dX2_laysSides_90 rfl (lv_at hl 3 rfl) ?_
        refine mc_vir (As := [.int x1, .int x3]) (rest := []) X (mM_point0 l G o ρ hap σ x1 x3 _ hw) (lw_V q2407 q2409 qs81 q_ini2 q2410) hd2_point0 (mm_le hRf rfl) (mm_le hRl rfl) rfl rfl (Nat.le_of_ble_eq_true rfl) dX2_laysSides_91 hR hS hl.1 (fun r91 H locs hw hR hS => ?_)
        refine lv_istore (lv' := [(4, .int r91), (0, .ref o), (1, .int x1), (2, .int x2), (3, .int x3)]) hx hb dX2_laysSides_94 hl (by decide) rfl (fun ls hl => ?_)
        refine lv_iload_n hx hb dX2_laysSides_96 rfl (lv_at hl 3 rfl) ?_
        refine lv_istore (lv' := [(5, .int x2), (4, .int r91), (0, .ref o), (1, .int x1), (2, .int x2), (3, .int x3)]) hx hb dX2_laysSides_97 hl (by decide) rfl (fun ls hl => ?_)
        obtain ⟨n99, hw⟩ := hw
        exact hL99 x1 x3 r91 n99 σ x2 hw H locs ls hR hS (lv_sub hl [2, 3, 5, 1, 0] rfl)
      · have hw := hw.2 c_37
        refine lv_aload_n hx hb dX2_laysSides_40 rfl (lv_at hl 0 rfl) ?_
        refine lv_iload_n hx hb dX2_laysSides_41 rfl (lv_at hl 1 rfl) ?_
        refine lv_iload hx hb dX2_laysSides_42 (lv_at hl 4 rfl) ?_
        refine mc_vir (As := [.int x1, .int x4]) (rest := []) X (mM_point0 l G o ρ hap σ x1 x4 _ hw) (lw_V q2407 q2409 qs81 q_ini2 q2410) hd2_point0 (mm_le hRf rfl) (mm_le hRl rfl) rfl rfl (Nat.le_of_ble_eq_true rfl) dX2_laysSides_44 hR hS hl.1 (fun r44 H locs hw hR hS => ?_)
        refine lv_if_lt (tgt := 80) hx hb dX2_laysSides_47 (by decide) (fun c_47 => ?_) (fun c_47 => ?_)
        · have hw := hw.1 c_47
          exact hJ80 x3 x4 hw H locs ls hR hS (lv_sub hl [0, 1, 2, 3, 4] rfl)
        · have hw := hw.2 c_47
          refine lv_aload_n hx hb dX2_laysSides_50 rfl (lv_at hl 0 rfl) ?_
          refine lv_iload_n hx hb dX2_laysSides_51 rfl (lv_at hl 1 rfl) ?_
          refine lv_iload_n hx hb dX2_laysSides_52 rfl (lv_at hl 3 rfl) ?_
          refine mc_vir (As := [.int x1, .int x3]) (rest := []) X (mM_point0 l G o ρ hap σ x1 x3 _ hw) (lw_V q2407 q2409 qs81 q_ini2 q2410) hd2_point0 (mm_le hRf rfl) (mm_le hRl rfl) rfl rfl (Nat.le_of_ble_eq_true rfl) dX2_laysSides_53 hR hS hl.1 (fun r53 H locs hw hR hS => ?_)
          refine lv_if_lt (tgt := 75) hx hb dX2_laysSides_56 (by decide) (fun c_56 => ?_) (fun c_56 => ?_)
          · have hw := hw.1 c_56
            exact hJ75 x4 hw H locs ls hR hS (lv_sub hl [0, 1, 2, 4] rfl)
          · have hw := hw.2 c_56
            refine lv_aload_n hx hb dX2_laysSides_59 rfl (lv_at hl 0 rfl) ?_
            refine lv_iload_n hx hb dX2_laysSides_60 rfl (lv_at hl 1 rfl) ?_
            refine lv_iload hx hb dX2_laysSides_61 (lv_at hl 4 rfl) ?_
            refine mc_vir (As := [.int x1, .int x4]) (rest := []) X (mM_point0 l G o ρ hap σ x1 x4 _ hw) (lw_V q2407 q2409 qs81 q_ini2 q2410) hd2_point0 (mm_le hRf rfl) (mm_le hRl rfl) rfl rfl (Nat.le_of_ble_eq_true rfl) dX2_laysSides_63 hR hS hl.1 (fun r63 H locs hw hR hS => ?_)
            refine lv_aload_n hx hb dX2_laysSides_66 rfl (lv_at hl 0 rfl) ?_
            refine lv_iload_n hx hb dX2_laysSides_67 rfl (lv_at hl 1 rfl) ?_
            refine lv_iload_n hx hb dX2_laysSides_68 rfl (lv_at hl 3 rfl) ?_
            refine mc_vir (As := [.int x1, .int x3]) (rest := [.int r63]) X (mM_point0 l G o ρ hap σ x1 x3 _ hw) (lw_V q2407 q2409 qs81 q_ini2 q2410) hd2_point0 (mm_le hRf rfl) (mm_le hRl rfl) rfl rfl (Nat.le_of_ble_eq_true rfl) dX2_laysSides_69 hR hS hl.1 (fun r69 H locs hw hR hS => ?_)
            refine lv_icmp_ge (tgt := 80) hx hb dX2_laysSides_72 (by decide) (fun c_72 => ?_) (fun c_72 => ?_)
            · have hw := hw.1 c_72
              exact hJ80 x3 x4 hw H locs ls hR hS (lv_sub hl [0, 1, 2, 3, 4] rfl)
            · have hw := hw.2 c_72
              exact hJ75 x4 hw H locs ls hR hS (lv_sub hl [0, 1, 2, 4] rfl)
  intro H ls hR hS hl
  have hl : lv_has ls 11 [(0, .ref o), (1, .int x1)] := hl
  generalize ([] : List Loc) = locs at hS ⊢
  unfold wM_laysSides at hw
  refine lv_aload_n hx hb dX2_laysSides_0 rfl (lv_at hl 0 rfl) ?_
  refine mg_27 hx hb hts hown hE hR dX2_laysSides_1 ?_
  refine lv_iload_n hx hb dX2_laysSides_4 rfl (lv_at hl 1 rfl) ?_
  refine lv_aload_n hx hb dX2_laysSides_5 rfl (lv_at hl 0 rfl) ?_
  refine mg_22 hx hb hts hown hE hR dX2_laysSides_6 ?_
  obtain ⟨hi_9, hw⟩ := hw
  refine mst_27 hx hb hE hap hR hS hi_9 dX2_laysSides_9 (fun σ9 e_σ9 H locs hR hS => ?_)
  have hw := hw σ9 e_σ9
  clear e_σ9
  refine lv_aload_n hx hb dX2_laysSides_10 rfl (lv_at hl 0 rfl) ?_
  refine mg_30 hx hb hts hown hE hR dX2_laysSides_11 ?_
  refine lv_iload_n hx hb dX2_laysSides_14 rfl (lv_at hl 1 rfl) ?_
  refine lv_iconst (v := 0) hx hb dX2_laysSides_15 (by decide) ?_
  obtain ⟨hi_16, hw⟩ := hw
  refine mst_30 hx hb hE hap hR hS hi_16 dX2_laysSides_16 (fun σ16 e_σ16 H locs hR hS => ?_)
  have hw := hw σ16 e_σ16
  clear e_σ16
  refine lv_aload_n hx hb dX2_laysSides_17 rfl (lv_at hl 0 rfl) ?_
  refine mg_29 hx hb hts hown hE hR dX2_laysSides_18 ?_
  refine lv_iload_n hx hb dX2_laysSides_21 rfl (lv_at hl 1 rfl) ?_
  obtain ⟨hi_22, hw⟩ := hw
  refine ma_29 hx hb hE hR hi_22 dX2_laysSides_22 ?_
  refine lv_istore_n (lv' := [(2, .int (mga σ16 29 x1.toNatClampNeg)), (0, .ref o), (1, .int x1)]) hx hb dX2_laysSides_23 rfl hl (by decide) rfl (fun ls hl => ?_)
  refine lv_iload_n hx hb dX2_laysSides_24 rfl (lv_at hl 0 rfl) ?_
  refine lv_istore_n (lv' := [(3, .int (mga σ16 29 x1.toNatClampNeg)), (2, .int (mga σ16 29 x1.toNatClampNeg)), (0, .ref o), (1, .int x1)]) hx hb dX2_laysSides_25 rfl hl (by decide) rfl (fun ls hl => ?_)
  refine lv_iload_n hx hb dX2_laysSides_26 rfl (lv_at hl 1 rfl) ?_
  refine lv_istore (lv' := [(4, .int (mga σ16 29 x1.toNatClampNeg)), (3, .int (mga σ16 29 x1.toNatClampNeg)), (2, .int (mga σ16 29 x1.toNatClampNeg)), (0, .ref o), (1, .int x1)]) hx hb dX2_laysSides_27 hl (by decide) rfl (fun ls hl => ?_)
  obtain ⟨n29, hw⟩ := hw
  exact hL29 σ16 x1 (mga σ16 29 x1.toNatClampNeg) n29 (mga σ16 29 x1.toNatClampNeg) (mga σ16 29 x1.toNatClampNeg) hw H locs ls hR hS (lv_sub hl [3, 4, 2, 1, 0] rfl)
def wM_laysKnot_j60  (Q : mS → Prop) (σ : mS) (x1 : Int32)  : Prop :=
  wM_laysSides σ x1 (fun σ62 => Q σ62)
def wM_laysKnot (σ : mS) (x1 : Int32) (Q : mS → Prop) : Prop :=
  wM_takesKnot σ x1 (fun σ2 => wM_laysPoints σ2 x1 (fun σ7 => vp_in (mgi σ7 49) 8 ∧ (vp_in x1 40 ∧ ((((mga σ7 29 x1.toNatClampNeg) ≤ (1 : Int32) → (((mga σ7 29 x1.toNatClampNeg) = (1 : Int32) → wM_addsLeaf σ7 (1 : Int32) (mga σ7 51 (mgi σ7 49).toNatClampNeg) (1 : Int32) (mga σ7 51 (mgi σ7 49).toNatClampNeg) x1 (fun σ57 => (wM_laysKnot_j60  Q σ57 x1))) ∧ (¬ (mga σ7 29 x1.toNatClampNeg) = (1 : Int32) → (wM_laysKnot_j60  Q σ7 x1)))) ∧ (¬ (mga σ7 29 x1.toNatClampNeg) ≤ (1 : Int32) → wM_addsLeaf σ7 (4 : Int32) (0 : Int32) (0 : Int32) ((mga σ7 29 x1.toNatClampNeg) * (mga σ7 51 (mgi σ7 49).toNatClampNeg)) x1 (fun σ40 => (wM_laysKnot_j60  Q σ40 x1))))))))
set_option maxHeartbeats 4000000 in
theorem mM_laysKnot (l : Launch) (G : mG) (o : Nat) (ρ : Nat → Nat) (hap : mAp o ρ) (σ : mS) (x1 : Int32) (Q : mS → Prop) (hw : wM_laysKnot σ x1 Q) : mMetV l G yX2_laysKnot (ws_ yX2_laysKnot cX2_laysKnot 4 none) 6 163 o ρ [.ref o, .int x1] σ Q := by
  refine mo_V plain2 rfl (Nat.le_of_ble_eq_true rfl) ?_
  intro p e s R m args below meth c QQ X hRf hRl hret
  obtain ⟨hx, hb, hml, hown, hts, hE⟩ := id X
  have hJ60 : ∀ (σ : mS) (x1 : Int32), wM_laysKnot_j60  Q σ x1 → ∀ (H : Heap) (locs : List Loc) (ls : Array Slot), mR G o ρ σ H → va_S (mA o ρ) s.heap H locs → lv_has ls 4 [(0, .ref o), (1, .int x1)] → W p l e R s m args below meth c H locs 0 0 QQ (F0 m 60 ls []) := by
    intro σ x1 hw H locs ls hR hS hl
    unfold wM_laysKnot_j60 at hw
    refine lv_aload_n hx hb dX2_laysKnot_60 rfl (lv_at hl 0 rfl) ?_
    refine lv_iload_n hx hb dX2_laysKnot_61 rfl (lv_at hl 1 rfl) ?_
    refine mc_vv (As := [.int x1]) (rest := []) X (mM_laysSides l G o ρ hap σ x1 _ hw) (lw_V q2403 q2405 qs80 q_ini2 q2406) hd2_laysSides (mm_le hRf rfl) (mm_le hRl rfl) rfl rfl (Nat.le_of_ble_eq_true rfl) dX2_laysKnot_62 hR hS hl.1 (fun σ62 H locs hw hR hS => ?_)
    exact hret _ _ _ _ _ hw hR hS dX2_laysKnot_65
  intro H ls hR hS hl
  have hl : lv_has ls 4 [(0, .ref o), (1, .int x1)] := hl
  generalize ([] : List Loc) = locs at hS ⊢
  unfold wM_laysKnot at hw
  refine lv_aload_n hx hb dX2_laysKnot_0 rfl (lv_at hl 0 rfl) ?_
  refine lv_iload_n hx hb dX2_laysKnot_1 rfl (lv_at hl 1 rfl) ?_
  refine mc_vv (As := [.int x1]) (rest := []) X (mM_takesKnot l G o ρ hap σ x1 _ hw) (lw_V q2375 q2377 qs73 q_ini2 q2378) hd2_takesKnot (mm_le hRf rfl) (mm_le hRl rfl) rfl rfl (Nat.le_of_ble_eq_true rfl) dX2_laysKnot_2 hR hS hl.1 (fun σ2 H locs hw hR hS => ?_)
  refine lv_aload_n hx hb dX2_laysKnot_5 rfl (lv_at hl 0 rfl) ?_
  refine lv_iload_n hx hb dX2_laysKnot_6 rfl (lv_at hl 1 rfl) ?_
  refine mc_vv (As := [.int x1]) (rest := []) X (mM_laysPoints l G o ρ hap σ2 x1 _ hw) (lw_V q2379 q2381 qs74 q_ini2 q2382) hd2_laysPoints (mm_le hRf rfl) (mm_le hRl rfl) rfl rfl (Nat.le_of_ble_eq_true rfl) dX2_laysKnot_7 hR hS hl.1 (fun σ7 H locs hw hR hS => ?_)
  refine lv_aload_n hx hb dX2_laysKnot_10 rfl (lv_at hl 0 rfl) ?_
  refine mg_51 hx hb hts hown hE hR dX2_laysKnot_11 ?_
  refine lv_aload_n hx hb dX2_laysKnot_14 rfl (lv_at hl 0 rfl) ?_
  refine mg_49 hx hb hts hown hE hR dX2_laysKnot_15 ?_
  obtain ⟨hi_18, hw⟩ := hw
  refine ma_51 hx hb hE hR hi_18 dX2_laysKnot_18 ?_
  refine lv_istore_n (lv' := [(2, .int (mga σ7 51 (mgi σ7 49).toNatClampNeg)), (0, .ref o), (1, .int x1)]) hx hb dX2_laysKnot_19 rfl hl (by decide) rfl (fun ls hl => ?_)
  refine lv_aload_n hx hb dX2_laysKnot_20 rfl (lv_at hl 1 rfl) ?_
  refine mg_29 hx hb hts hown hE hR dX2_laysKnot_21 ?_
  refine lv_iload_n hx hb dX2_laysKnot_24 rfl (lv_at hl 2 rfl) ?_
  obtain ⟨hi_25, hw⟩ := hw
  refine ma_29 hx hb hE hR hi_25 dX2_laysKnot_25 ?_
  refine lv_istore_n (lv' := [(3, .int (mga σ7 29 x1.toNatClampNeg)), (2, .int (mga σ7 51 (mgi σ7 49).toNatClampNeg)), (0, .ref o), (1, .int x1)]) hx hb dX2_laysKnot_26 rfl hl (by decide) rfl (fun ls hl => ?_)
  refine lv_iload_n hx hb dX2_laysKnot_27 rfl (lv_at hl 0 rfl) ?_
  refine lv_iconst (v := 1) hx hb dX2_laysKnot_28 (by decide) ?_
  refine lv_icmp_le (tgt := 46) hx hb dX2_laysKnot_29 (by decide) (fun c_29 => ?_) (fun c_29 => ?_)
  · have hw := hw.1 c_29
    refine lv_iload_n hx hb dX2_laysKnot_46 rfl (lv_at hl 0 rfl) ?_
    refine lv_iconst (v := 1) hx hb dX2_laysKnot_47 (by decide) ?_
    refine lv_icmp_ne (tgt := 60) hx hb dX2_laysKnot_48 (by decide) (fun c_48 => ?_) (fun c_48 => ?_)
    · have hw := hw.2 c_48
      exact hJ60 σ7 x1 hw H locs ls hR hS (lv_sub hl [2, 3] rfl)
    · have hw := hw.1 c_48
      refine lv_aload_n hx hb dX2_laysKnot_51 rfl (lv_at hl 2 rfl) ?_
      refine lv_iconst (v := 1) hx hb dX2_laysKnot_52 (by decide) ?_
      refine lv_iload_n hx hb dX2_laysKnot_53 rfl (lv_at hl 1 rfl) ?_
      refine lv_iconst (v := 1) hx hb dX2_laysKnot_54 (by decide) ?_
      refine lv_iload_n hx hb dX2_laysKnot_55 rfl (lv_at hl 1 rfl) ?_
      refine lv_iload_n hx hb dX2_laysKnot_56 rfl (lv_at hl 3 rfl) ?_
      refine mc_vv (As := [.int (1 : Int32), .int (mga σ7 51 (mgi σ7 49).toNatClampNeg), .int (1 : Int32), .int (mga σ7 51 (mgi σ7 49).toNatClampNeg), .int x1]) (rest := []) X (mM_addsLeaf l G o ρ hap σ7 (1 : Int32) (mga σ7 51 (mgi σ7 49).toNatClampNeg) (1 : Int32) (mga σ7 51 (mgi σ7 49).toNatClampNeg) x1 _ hw) (lw_V q2355 q2357 qs68 q_ini2 q2358) hd2_addsLeaf (mm_le hRf rfl) (mm_le hRl rfl) rfl rfl (Nat.le_of_ble_eq_true rfl) dX2_laysKnot_57 hR hS hl.1 (fun σ57 H locs hw hR hS => ?_)
      exact hJ60 σ57 x1 hw H locs ls hR hS (lv_sub hl [2, 3] rfl)
  · have hw := hw.2 c_29
    refine lv_aload_n hx hb dX2_laysKnot_32 rfl (lv_at hl 2 rfl) ?_
    refine lv_iconst (v := 4) hx hb dX2_laysKnot_33 (by decide) ?_
    refine lv_iconst (v := 0) hx hb dX2_laysKnot_34 (by decide) ?_
    refine lv_iconst (v := 0) hx hb dX2_laysKnot_35 (by decide) ?_
    refine lv_iload_n hx hb dX2_laysKnot_36 rfl (lv_at hl 0 rfl) ?_
    refine lv_iload_n hx hb dX2_laysKnot_37 rfl (lv_at hl 1 rfl) ?_
    refine lv_imul hx hb dX2_laysKnot_38 ?_
    refine lv_iload_n hx hb dX2_laysKnot_39 rfl (lv_at hl 3 rfl) ?_
    refine mc_vv (As := [.int (4 : Int32), .int (0 : Int32), .int (0 : Int32), .int ((mga σ7 29 x1.toNatClampNeg) * (mga σ7 51 (mgi σ7 49).toNatClampNeg)), .int x1]) (rest := []) X (mM_addsLeaf l G o ρ hap σ7 (4 : Int32) (0 : Int32) (0 : Int32) ((mga σ7 29 x1.toNatClampNeg) * (mga σ7 51 (mgi σ7 49).toNatClampNeg)) x1 _ hw) (lw_V q2355 q2357 qs68 q_ini2 q2358) hd2_addsLeaf (mm_le hRf rfl) (mm_le hRl rfl) rfl rfl (Nat.le_of_ble_eq_true rfl) dX2_laysKnot_40 hR hS hl.1 (fun σ40 H locs hw hR hS => ?_)
    refine lv_goto (tgt := 60) hx hb dX2_laysKnot_43 (by decide) ?_
    exact hJ60 σ40 x1 hw H locs ls hR hS (lv_sub hl [2, 3] rfl)
def wM_goesInto (σ : mS) (x1 : Int32) (Q : mS → Prop) : Prop :=
  wM_laysKnot σ x1 (fun σ2 => ∀ σ12 : mS, σ12 = mpi σ2 61 ((mgi σ2 61) + 1) → vp_in (mgi σ12 61) 8 ∧ (∀ σ24 : mS, σ24 = mpa σ12 58 (mgi σ12 61).toNatClampNeg x1 → vp_in (mgi σ24 61) 8 ∧ (∀ σ34 : mS, σ34 = mpa σ24 59 (mgi σ24 61).toNatClampNeg 0 → vp_in (mgi σ34 61) 8 ∧ (∀ σ44 : mS, σ44 = mpa σ34 60 (mgi σ34 61).toNatClampNeg 0 → Q σ44))))
set_option maxHeartbeats 4000000 in
theorem mM_goesInto (l : Launch) (G : mG) (o : Nat) (ρ : Nat → Nat) (hap : mAp o ρ) (σ : mS) (x1 : Int32) (Q : mS → Prop) (hw : wM_goesInto σ x1 Q) : mMetV l G yX2_goesInto (ws_ yX2_goesInto cX2_goesInto 2 none) 7 186 o ρ [.ref o, .int x1] σ Q := by
  refine mo_V plain2 rfl (Nat.le_of_ble_eq_true rfl) ?_
  intro p e s R m args below meth c QQ X hRf hRl hret
  obtain ⟨hx, hb, hml, hown, hts, hE⟩ := id X
  intro H ls hR hS hl
  have hl : lv_has ls 2 [(0, .ref o), (1, .int x1)] := hl
  generalize ([] : List Loc) = locs at hS ⊢
  unfold wM_goesInto at hw
  refine lv_aload_n hx hb dX2_goesInto_0 rfl (lv_at hl 0 rfl) ?_
  refine lv_iload_n hx hb dX2_goesInto_1 rfl (lv_at hl 1 rfl) ?_
  refine mc_vv (As := [.int x1]) (rest := []) X (mM_laysKnot l G o ρ hap σ x1 _ hw) (lw_V q2371 q2373 qs72 q_ini2 q2374) hd2_laysKnot (mm_le hRf rfl) (mm_le hRl rfl) rfl rfl (Nat.le_of_ble_eq_true rfl) dX2_goesInto_2 hR hS hl.1 (fun σ2 H locs hw hR hS => ?_)
  refine lv_aload_n hx hb dX2_goesInto_5 rfl (lv_at hl 0 rfl) ?_
  refine lv_dup hx hb dX2_goesInto_6 rfl ?_
  refine mg_61 hx hb hts hown hE hR dX2_goesInto_7 ?_
  refine lv_iconst (v := 1) hx hb dX2_goesInto_10 (by decide) ?_
  refine lv_iadd hx hb dX2_goesInto_11 ?_
  refine mp_61 hx hb hts hown hE hap hR hS dX2_goesInto_12 (fun σ12 e_σ12 H locs hR hS => ?_)
  have hw := hw σ12 e_σ12
  clear e_σ12
  refine lv_aload_n hx hb dX2_goesInto_15 rfl (lv_at hl 0 rfl) ?_
  refine mg_58 hx hb hts hown hE hR dX2_goesInto_16 ?_
  refine lv_aload_n hx hb dX2_goesInto_19 rfl (lv_at hl 0 rfl) ?_
  refine mg_61 hx hb hts hown hE hR dX2_goesInto_20 ?_
  refine lv_iload_n hx hb dX2_goesInto_23 rfl (lv_at hl 1 rfl) ?_
  obtain ⟨hi_24, hw⟩ := hw
  refine mst_58 hx hb hE hap hR hS hi_24 dX2_goesInto_24 (fun σ24 e_σ24 H locs hR hS => ?_)
  have hw := hw σ24 e_σ24
  clear e_σ24
  refine lv_aload_n hx hb dX2_goesInto_25 rfl (lv_at hl 0 rfl) ?_
  refine mg_59 hx hb hts hown hE hR dX2_goesInto_26 ?_
  refine lv_aload_n hx hb dX2_goesInto_29 rfl (lv_at hl 0 rfl) ?_
  refine mg_61 hx hb hts hown hE hR dX2_goesInto_30 ?_
  refine lv_iconst (v := 0) hx hb dX2_goesInto_33 (by decide) ?_
  obtain ⟨hi_34, hw⟩ := hw
  refine mst_59 hx hb hE hap hR hS hi_34 dX2_goesInto_34 (fun σ34 e_σ34 H locs hR hS => ?_)
  have hw := hw σ34 e_σ34
  clear e_σ34
  refine lv_aload_n hx hb dX2_goesInto_35 rfl (lv_at hl 0 rfl) ?_
  refine mg_60 hx hb hts hown hE hR dX2_goesInto_36 ?_
  refine lv_aload_n hx hb dX2_goesInto_39 rfl (lv_at hl 0 rfl) ?_
  refine mg_61 hx hb hts hown hE hR dX2_goesInto_40 ?_
  refine lv_iconst (v := 0) hx hb dX2_goesInto_43 (by decide) ?_
  obtain ⟨hi_44, hw⟩ := hw
  refine mst_60 hx hb hE hap hR hS hi_44 dX2_goesInto_44 (fun σ44 e_σ44 H locs hR hS => ?_)
  have hw := hw σ44 e_σ44
  clear e_σ44
  exact hret _ _ _ _ _ hw hR hS dX2_goesInto_45
def wM_takesFirst (σ : mS) (x1 : Int32) (Q : mS → Prop) : Prop :=
  vp_in x1 9 ∧ (vp_in x1 9 ∧ ((((mga σ 14 x1.toNatClampNeg) = (1 : Int32) → wM_addsLeaf σ (0 : Int32) (1 : Int32) (mga σ 13 x1.toNatClampNeg) (mga σ 13 x1.toNatClampNeg) ((-2) : Int32) (fun σ26 => Q σ26)) ∧ (¬ (mga σ 14 x1.toNatClampNeg) = (1 : Int32) → (((mga σ 13 x1.toNatClampNeg) = (1 : Int32) → wM_rootOf σ x1 (fun r39 => wM_newKnot σ ((-1) : Int32) (mga σ 14 x1.toNatClampNeg) (fun r47 σ47 => wM_number σ47 (-r39).toInt64 (fun r66 => vp_in (9 * r47) 369 ∧ (∀ σ69 : mS, σ69 = mpl σ47 9 (9 * r47).toNatClampNeg r66 → vp_in ((9 * r47) + 1) 369 ∧ (∀ σ82 : mS, σ82 = mpl σ69 9 ((9 * r47) + 1).toNatClampNeg 1 → wM_goesInto σ82 r47 (fun σ86 => Q σ86))))))) ∧ (¬ (mga σ 13 x1.toNatClampNeg) = (1 : Int32) → wM_addsLeaf σ (2 : Int32) (0 : Int32) (0 : Int32) ((mga σ 13 x1.toNatClampNeg) * (mga σ 14 x1.toNatClampNeg)) ((-2) : Int32) (fun σ101 => Q σ101)))))))
set_option maxHeartbeats 4000000 in
theorem mM_takesFirst (l : Launch) (G : mG) (o : Nat) (ρ : Nat → Nat) (hap : mAp o ρ) (σ : mS) (x1 : Int32) (Q : mS → Prop) (hw : wM_takesFirst σ x1 Q) : mMetV l G yX2_takesFirst (ws_ yX2_takesFirst cX2_takesFirst 6 none) 8 207 o ρ [.ref o, .int x1] σ Q := by
  refine mo_V plain2 rfl (Nat.le_of_ble_eq_true rfl) ?_
  intro p e s R m args below meth c QQ X hRf hRl hret
  obtain ⟨hx, hb, hml, hown, hts, hE⟩ := id X
  intro H ls hR hS hl
  have hl : lv_has ls 6 [(0, .ref o), (1, .int x1)] := hl
  generalize ([] : List Loc) = locs at hS ⊢
  unfold wM_takesFirst at hw
  refine lv_aload_n hx hb dX2_takesFirst_0 rfl (lv_at hl 0 rfl) ?_
  refine mg_13 hx hb hts hown hE hR dX2_takesFirst_1 ?_
  refine lv_iload_n hx hb dX2_takesFirst_4 rfl (lv_at hl 1 rfl) ?_
  obtain ⟨hi_5, hw⟩ := hw
  refine ma_13 hx hb hE hR hi_5 dX2_takesFirst_5 ?_
  refine lv_istore_n (lv' := [(2, .int (mga σ 13 x1.toNatClampNeg)), (0, .ref o), (1, .int x1)]) hx hb dX2_takesFirst_6 rfl hl (by decide) rfl (fun ls hl => ?_)
  refine lv_aload_n hx hb dX2_takesFirst_7 rfl (lv_at hl 1 rfl) ?_
  refine mg_14 hx hb hts hown hE hR dX2_takesFirst_8 ?_
  refine lv_iload_n hx hb dX2_takesFirst_11 rfl (lv_at hl 2 rfl) ?_
  obtain ⟨hi_12, hw⟩ := hw
  refine ma_14 hx hb hE hR hi_12 dX2_takesFirst_12 ?_
  refine lv_istore_n (lv' := [(3, .int (mga σ 14 x1.toNatClampNeg)), (2, .int (mga σ 13 x1.toNatClampNeg)), (0, .ref o), (1, .int x1)]) hx hb dX2_takesFirst_13 rfl hl (by decide) rfl (fun ls hl => ?_)
  refine lv_iload_n hx hb dX2_takesFirst_14 rfl (lv_at hl 0 rfl) ?_
  refine lv_iconst (v := 1) hx hb dX2_takesFirst_15 (by decide) ?_
  refine lv_icmp_ne (tgt := 32) hx hb dX2_takesFirst_16 (by decide) (fun c_16 => ?_) (fun c_16 => ?_)
  · have hw := hw.2 c_16
    refine lv_iload_n hx hb dX2_takesFirst_32 rfl (lv_at hl 1 rfl) ?_
    refine lv_iconst (v := 1) hx hb dX2_takesFirst_33 (by decide) ?_
    refine lv_icmp_ne (tgt := 92) hx hb dX2_takesFirst_34 (by decide) (fun c_34 => ?_) (fun c_34 => ?_)
    · have hw := hw.2 c_34
      refine lv_aload_n hx hb dX2_takesFirst_92 rfl (lv_at hl 2 rfl) ?_
      refine lv_iconst (v := 2) hx hb dX2_takesFirst_93 (by decide) ?_
      refine lv_iconst (v := 0) hx hb dX2_takesFirst_94 (by decide) ?_
      refine lv_iconst (v := 0) hx hb dX2_takesFirst_95 (by decide) ?_
      refine lv_iload_n hx hb dX2_takesFirst_96 rfl (lv_at hl 1 rfl) ?_
      refine lv_iload_n hx hb dX2_takesFirst_97 rfl (lv_at hl 0 rfl) ?_
      refine lv_imul hx hb dX2_takesFirst_98 ?_
      refine lv_bipush (v := (-2)) hx hb dX2_takesFirst_99 (by decide) ?_
      refine mc_vv (As := [.int (2 : Int32), .int (0 : Int32), .int (0 : Int32), .int ((mga σ 13 x1.toNatClampNeg) * (mga σ 14 x1.toNatClampNeg)), .int ((-2) : Int32)]) (rest := []) X (mM_addsLeaf l G o ρ hap σ (2 : Int32) (0 : Int32) (0 : Int32) ((mga σ 13 x1.toNatClampNeg) * (mga σ 14 x1.toNatClampNeg)) ((-2) : Int32) _ hw) (lw_V q2355 q2357 qs68 q_ini2 q2358) hd2_addsLeaf (mm_le hRf rfl) (mm_le hRl rfl) rfl rfl (Nat.le_of_ble_eq_true rfl) dX2_takesFirst_101 hR hS hl.1 (fun σ101 H locs hw hR hS => ?_)
      exact hret _ _ _ _ _ hw hR hS dX2_takesFirst_104
    · have hw := hw.1 c_34
      refine lv_aload_n hx hb dX2_takesFirst_37 rfl (lv_at hl 2 rfl) ?_
      refine lv_iload_n hx hb dX2_takesFirst_38 rfl (lv_at hl 3 rfl) ?_
      refine mc_vir (As := [.int x1]) (rest := []) X (mM_rootOf l G o ρ hap σ x1 _ hw) (lw_V q2359 q2361 qs69 q_ini2 q2362) hd2_rootOf (mm_le hRf rfl) (mm_le hRl rfl) rfl rfl (Nat.le_of_ble_eq_true rfl) dX2_takesFirst_39 hR hS hl.1 (fun r39 H locs hw hR hS => ?_)
      refine lv_istore (lv' := [(4, .int r39), (3, .int (mga σ 14 x1.toNatClampNeg)), (2, .int (mga σ 13 x1.toNatClampNeg)), (0, .ref o), (1, .int x1)]) hx hb dX2_takesFirst_42 hl (by decide) rfl (fun ls hl => ?_)
      refine lv_aload_n hx hb dX2_takesFirst_44 rfl (lv_at hl 3 rfl) ?_
      refine lv_iconst (v := (-1)) hx hb dX2_takesFirst_45 (by decide) ?_
      refine lv_iload_n hx hb dX2_takesFirst_46 rfl (lv_at hl 1 rfl) ?_
      refine mc_vi (As := [.int ((-1) : Int32), .int (mga σ 14 x1.toNatClampNeg)]) (rest := []) X (mM_newKnot l G o ρ hap σ ((-1) : Int32) (mga σ 14 x1.toNatClampNeg) _ hw) (lw_V q2363 q2365 qs70 q_ini2 q2366) hd2_newKnot (mm_le hRf rfl) (mm_le hRl rfl) rfl rfl (Nat.le_of_ble_eq_true rfl) dX2_takesFirst_47 hR hS hl.1 (fun r47 σ47 H locs hw hR hS => ?_)
      refine lv_istore (lv' := [(5, .int r47), (4, .int r39), (3, .int (mga σ 14 x1.toNatClampNeg)), (2, .int (mga σ 13 x1.toNatClampNeg)), (0, .ref o), (1, .int x1)]) hx hb dX2_takesFirst_50 hl (by decide) rfl (fun ls hl => ?_)
      refine lv_aload_n hx hb dX2_takesFirst_52 rfl (lv_at hl 4 rfl) ?_
      refine mg_9 hx hb hts hown hE hR dX2_takesFirst_53 ?_
      refine lv_bipush (v := 9) hx hb dX2_takesFirst_56 (by decide) ?_
      refine lv_iload hx hb dX2_takesFirst_58 (lv_at hl 0 rfl) ?_
      refine lv_imul hx hb dX2_takesFirst_60 ?_
      refine lv_aload_n hx hb dX2_takesFirst_61 rfl (lv_at hl 4 rfl) ?_
      refine lv_iload hx hb dX2_takesFirst_62 (lv_at hl 1 rfl) ?_
      refine lv_ineg hx hb dX2_takesFirst_64 ?_
      refine lv_i2l hx hb dX2_takesFirst_65 rfl ?_
      refine mc_vlr (As := [.long (-r39).toInt64]) (rest := [.int (9 * r47), .ref (ρ 9)]) X (mM_number l G o ρ hap σ47 (-r39).toInt64 _ hw) (lw_V q2297 q2299 qs56 q_ini2 q2300) hd2_number (mm_le hRf rfl) (mm_le hRl rfl) rfl rfl (Nat.le_of_ble_eq_true rfl) dX2_takesFirst_66 hR hS hl.1 (fun r66 H locs hw hR hS => ?_)
      obtain ⟨hi_69, hw⟩ := hw
      refine mst_9 hx hb hE hap hR hS hi_69 dX2_takesFirst_69 (fun σ69 e_σ69 H locs hR hS => ?_)
      have hw := hw σ69 e_σ69
      clear e_σ69
      refine lv_aload_n hx hb dX2_takesFirst_70 rfl (lv_at hl 4 rfl) ?_
      refine mg_9 hx hb hts hown hE hR dX2_takesFirst_71 ?_
      refine lv_bipush (v := 9) hx hb dX2_takesFirst_74 (by decide) ?_
      refine lv_iload hx hb dX2_takesFirst_76 (lv_at hl 0 rfl) ?_
      refine lv_imul hx hb dX2_takesFirst_78 ?_
      refine lv_iconst (v := 1) hx hb dX2_takesFirst_79 (by decide) ?_
      refine lv_iadd hx hb dX2_takesFirst_80 ?_
      refine lv_lconst (v := 1) hx hb dX2_takesFirst_81 (by decide) ?_
      obtain ⟨hi_82, hw⟩ := hw
      refine mst_9 hx hb hE hap hR hS hi_82 dX2_takesFirst_82 (fun σ82 e_σ82 H locs hR hS => ?_)
      have hw := hw σ82 e_σ82
      clear e_σ82
      refine lv_aload_n hx hb dX2_takesFirst_83 rfl (lv_at hl 4 rfl) ?_
      refine lv_iload hx hb dX2_takesFirst_84 (lv_at hl 0 rfl) ?_
      refine mc_vv (As := [.int r47]) (rest := []) X (mM_goesInto l G o ρ hap σ82 r47 _ hw) (lw_V q2367 q2369 qs71 q_ini2 q2370) hd2_goesInto (mm_le hRf rfl) (mm_le hRl rfl) rfl rfl (Nat.le_of_ble_eq_true rfl) dX2_takesFirst_86 hR hS hl.1 (fun σ86 H locs hw hR hS => ?_)
      refine lv_goto (tgt := 104) hx hb dX2_takesFirst_89 (by decide) ?_
      exact hret _ _ _ _ _ hw hR hS dX2_takesFirst_104
  · have hw := hw.1 c_16
    refine lv_aload_n hx hb dX2_takesFirst_19 rfl (lv_at hl 2 rfl) ?_
    refine lv_iconst (v := 0) hx hb dX2_takesFirst_20 (by decide) ?_
    refine lv_iconst (v := 1) hx hb dX2_takesFirst_21 (by decide) ?_
    refine lv_iload_n hx hb dX2_takesFirst_22 rfl (lv_at hl 1 rfl) ?_
    refine lv_iload_n hx hb dX2_takesFirst_23 rfl (lv_at hl 1 rfl) ?_
    refine lv_bipush (v := (-2)) hx hb dX2_takesFirst_24 (by decide) ?_
    refine mc_vv (As := [.int (0 : Int32), .int (1 : Int32), .int (mga σ 13 x1.toNatClampNeg), .int (mga σ 13 x1.toNatClampNeg), .int ((-2) : Int32)]) (rest := []) X (mM_addsLeaf l G o ρ hap σ (0 : Int32) (1 : Int32) (mga σ 13 x1.toNatClampNeg) (mga σ 13 x1.toNatClampNeg) ((-2) : Int32) _ hw) (lw_V q2355 q2357 qs68 q_ini2 q2358) hd2_addsLeaf (mm_le hRf rfl) (mm_le hRl rfl) rfl rfl (Nat.le_of_ble_eq_true rfl) dX2_takesFirst_26 hR hS hl.1 (fun σ26 H locs hw hR hS => ?_)
    refine lv_goto (tgt := 104) hx hb dX2_takesFirst_29 (by decide) ?_
    exact hret _ _ _ _ _ hw hR hS dX2_takesFirst_104
def wM_begins_j26 (rec2 : mS → Int32 → Prop) (Q : mS → Prop) (σ : mS) (x1 : Int64) (x3 : Int32) (s0 : Int64) (s1 : Int32) : Prop :=
  vp_in s1 9 ∧ (∀ σ26 : mS, σ26 = mpl σ 57 s1.toNatClampNeg s0 → rec2 σ26 (x3 + 1))
def wM_begins_l2  (Q : mS → Prop)  (x1 : Int64) : Nat → mS → Int32 → Prop
  | 0, _, _ => False
  | n + 1, σ, x3 => (((9 : Int32) ≤ x3 → Q σ) ∧ (¬ (9 : Int32) ≤ x3 → ((x3 = 0 → wM_number σ x1 (fun r19 => (wM_begins_j26 (fun z z3 => wM_begins_l2  Q  x1 n z z3) Q σ x1 x3 r19 x3))) ∧ (¬ x3 = 0 → (wM_begins_j26 (fun z z3 => wM_begins_l2  Q  x1 n z z3) Q σ x1 x3 (0 : Int64) x3)))))
def wM_begins (σ : mS) (x1 : Int64) (Q : mS → Prop) : Prop :=
  (∃ k2 : Nat, wM_begins_l2  Q  x1 k2 σ (0 : Int32))
set_option maxHeartbeats 4000000 in
theorem mM_begins (l : Launch) (G : mG) (o : Nat) (ρ : Nat → Nat) (hap : mAp o ρ) (σ : mS) (x1 : Int64) (Q : mS → Prop) (hw : wM_begins σ x1 Q) : mMetV l G yX2_begins (ws_ yX2_begins cX2_begins 4 none) 1 24 o ρ [.ref o, .long x1] σ Q := by
  refine mo_V plain2 rfl (Nat.le_of_ble_eq_true rfl) ?_
  intro p e s R m args below meth c QQ X hRf hRl hret
  obtain ⟨hx, hb, hml, hown, hts, hE⟩ := id X
  have hL2 : ∀ (x1 : Int64) (n2 : Nat) (σ : mS) (x3 : Int32), wM_begins_l2  Q  x1 n2 σ x3 → ∀ (H : Heap) (locs : List Loc) (ls : Array Slot), mR G o ρ σ H → va_S (mA o ρ) s.heap H locs → lv_has ls 4 [(0, .ref o), (1, .long x1), (3, .int x3)] → W p l e R s m args below meth c H locs 0 0 QQ (F0 m 2 ls []) := by
    intro x1 n2
    induction n2 with
    | zero => intro σ x3 hw; exact hw.elim
    | succ n2 ih2 =>
      have hJ26 : ∀ (σ : mS) (x3 : Int32) (s0 : Int64) (s1 : Int32), wM_begins_j26 (wM_begins_l2  Q  x1 n2) Q σ x1 x3 s0 s1 → ∀ (H : Heap) (locs : List Loc) (ls : Array Slot), mR G o ρ σ H → va_S (mA o ρ) s.heap H locs → lv_has ls 4 [(0, .ref o), (1, .long x1), (3, .int x3)] → W p l e R s m args below meth c H locs 0 0 QQ (F0 m 26 ls [.long s0, .int s1, .ref (ρ 57)]) := by
        intro σ x3 s0 s1 hw H locs ls hR hS hl
        unfold wM_begins_j26 at hw
        obtain ⟨hi_26, hw⟩ := hw
        refine mst_57 hx hb hE hap hR hS hi_26 dX2_begins_26 (fun σ26 e_σ26 H locs hR hS => ?_)
        have hw := hw σ26 e_σ26
        clear e_σ26
        refine lv_iinc (k := 2) (lv' := [(3, .int (x3 + 1)), (0, .ref o), (1, .long x1)]) hx hb dX2_begins_27 hl rfl (congrArg (x3 + ·) (by decide : Int32.ofInt 1 = 1)) (by decide) rfl (fun ls hl => ?_)
        refine lv_goto (tgt := 2) hx hb dX2_begins_30 (by decide) ?_
        exact ih2 σ26 (x3 + 1) hw H locs ls hR hS (lv_sub hl [1, 2, 0] rfl)
      intro σ x3 hw H locs ls hR hS hl
      rw [wM_begins_l2] at hw
      refine lv_iload_n hx hb dX2_begins_2 rfl (lv_at hl 2 rfl) ?_
      refine lv_bipush (v := 9) hx hb dX2_begins_3 (by decide) ?_
      refine lv_icmp_ge (tgt := 33) hx hb dX2_begins_5 (by decide) (fun c_5 => ?_) (fun c_5 => ?_)
      · have hw := hw.1 c_5
        exact hret _ _ _ _ _ hw hR hS dX2_begins_33
      · have hw := hw.2 c_5
        refine lv_aload_n hx hb dX2_begins_8 rfl (lv_at hl 0 rfl) ?_
        refine mg_57 hx hb hts hown hE hR dX2_begins_9 ?_
        refine lv_iload_n hx hb dX2_begins_12 rfl (lv_at hl 2 rfl) ?_
        refine lv_iload_n hx hb dX2_begins_13 rfl (lv_at hl 2 rfl) ?_
        refine lv_if_ne (tgt := 25) hx hb dX2_begins_14 (by decide) (fun c_14 => ?_) (fun c_14 => ?_)
        · have hw := hw.2 c_14
          refine lv_lconst (v := 0) hx hb dX2_begins_25 (by decide) ?_
          exact hJ26 σ x3 (0 : Int64) x3 hw H locs ls hR hS (lv_sub hl [0, 1, 2] rfl)
        · have hw := hw.1 c_14
          refine lv_aload_n hx hb dX2_begins_17 rfl (lv_at hl 0 rfl) ?_
          refine lv_lload_n hx hb dX2_begins_18 rfl (lv_at hl 1 rfl) ?_
          refine mc_vlr (As := [.long x1]) (rest := [.int x3, .ref (ρ 57)]) X (mM_number l G o ρ hap σ x1 _ hw) (lw_V q2297 q2299 qs56 q_ini2 q2300) hd2_number (mm_le hRf rfl) (mm_le hRl rfl) rfl rfl (Nat.le_of_ble_eq_true rfl) dX2_begins_19 hR hS hl.1 (fun r19 H locs hw hR hS => ?_)
          refine lv_goto (tgt := 26) hx hb dX2_begins_22 (by decide) ?_
          exact hJ26 σ x3 r19 x3 hw H locs ls hR hS (lv_sub hl [0, 1, 2] rfl)
  intro H ls hR hS hl
  have hl : lv_has ls 4 [(0, .ref o), (1, .long x1)] := hl
  generalize ([] : List Loc) = locs at hS ⊢
  unfold wM_begins at hw
  refine lv_iconst (v := 0) hx hb dX2_begins_0 (by decide) ?_
  refine lv_istore_n (lv' := [(3, .int 0), (0, .ref o), (1, .long x1)]) hx hb dX2_begins_1 rfl hl (by decide) rfl (fun ls hl => ?_)
  obtain ⟨n2, hw⟩ := hw
  exact hL2 x1 n2 σ (0 : Int32) hw H locs ls hR hS (lv_sub hl [1, 2, 0] rfl)
def wM_multiplies_l12 (rec3 : mS → Int32 → Prop) (Q : mS → Prop) (σ : mS) (x1 : Int32) (x2 : Int32) : Nat → Int64 → Int32 → Prop
  | 0, _, _ => False
  | n + 1, x3, x5 => ((x2 < x5 → vp_in x2 9 ∧ (∀ σ56 : mS, σ56 = mpl σ 57 x2.toNatClampNeg x3 → rec3 σ56 (x2 + (-1)))) ∧ (¬ x2 < x5 → vp_in x5 9 ∧ (vp_in ((x1 + x2) - x5) 369 ∧ (wM_number σ (x3 + ((mgl σ 57 x5.toNatClampNeg) * (mgl σ 9 ((x1 + x2) - x5).toNatClampNeg))) (fun r40 => wM_multiplies_l12 rec3 Q σ x1 x2 n r40 (x5 + 1))))))
def wM_multiplies_l3  (Q : mS → Prop)  (x1 : Int32) : Nat → mS → Int32 → Prop
  | 0, _, _ => False
  | n + 1, σ, x2 => ((x2 < 0 → Q σ) ∧ (¬ x2 < 0 → (∃ k12 : Nat, wM_multiplies_l12 (fun z z2 => wM_multiplies_l3  Q  x1 n z z2) Q σ x1 x2 k12 (0 : Int64) (0 : Int32))))
def wM_multiplies (σ : mS) (x1 : Int32) (Q : mS → Prop) : Prop :=
  (∃ k3 : Nat, wM_multiplies_l3  Q  x1 k3 σ (8 : Int32))
set_option maxHeartbeats 4000000 in
theorem mM_multiplies (l : Launch) (G : mG) (o : Nat) (ρ : Nat → Nat) (hap : mAp o ρ) (σ : mS) (x1 : Int32) (Q : mS → Prop) (hw : wM_multiplies σ x1 Q) : mMetV l G yX2_multiplies (ws_ yX2_multiplies cX2_multiplies 6 none) 1 24 o ρ [.ref o, .int x1] σ Q := by
  refine mo_V plain2 rfl (Nat.le_of_ble_eq_true rfl) ?_
  intro p e s R m args below meth c QQ X hRf hRl hret
  obtain ⟨hx, hb, hml, hown, hts, hE⟩ := id X
  have hL3 : ∀ (x1 : Int32) (n3 : Nat) (σ : mS) (x2 : Int32), wM_multiplies_l3  Q  x1 n3 σ x2 → ∀ (H : Heap) (locs : List Loc) (ls : Array Slot), mR G o ρ σ H → va_S (mA o ρ) s.heap H locs → lv_has ls 6 [(0, .ref o), (1, .int x1), (2, .int x2)] → W p l e R s m args below meth c H locs 0 0 QQ (F0 m 3 ls []) := by
    intro x1 n3
    induction n3 with
    | zero => intro σ x2 hw; exact hw.elim
    | succ n3 ih3 =>
      have hL12 : ∀ (σ : mS) (x2 : Int32) (n12 : Nat) (x3 : Int64) (x5 : Int32), wM_multiplies_l12 (wM_multiplies_l3  Q  x1 n3) Q σ x1 x2 n12 x3 x5 → ∀ (H : Heap) (locs : List Loc) (ls : Array Slot), mR G o ρ σ H → va_S (mA o ρ) s.heap H locs → lv_has ls 6 [(0, .ref o), (1, .int x1), (2, .int x2), (3, .long x3), (5, .int x5)] → W p l e R s m args below meth c H locs 0 0 QQ (F0 m 12 ls []) := by
        intro σ x2 n12
        induction n12 with
        | zero => intro x3 x5 hw; exact hw.elim
        | succ n12 ih12 =>
          intro x3 x5 hw H locs ls hR hS hl
          rw [wM_multiplies_l12] at hw
          refine lv_iload hx hb dX2_multiplies_12 (lv_at hl 4 rfl) ?_
          refine lv_iload_n hx hb dX2_multiplies_14 rfl (lv_at hl 2 rfl) ?_
          refine lv_icmp_gt (tgt := 50) hx hb dX2_multiplies_15 (by decide) (fun c_15 => ?_) (fun c_15 => ?_)
          · have hw := hw.1 c_15
            refine lv_aload_n hx hb dX2_multiplies_50 rfl (lv_at hl 0 rfl) ?_
            refine mg_57 hx hb hts hown hE hR dX2_multiplies_51 ?_
            refine lv_iload_n hx hb dX2_multiplies_54 rfl (lv_at hl 2 rfl) ?_
            refine lv_lload_n hx hb dX2_multiplies_55 rfl (lv_at hl 3 rfl) ?_
            obtain ⟨hi_56, hw⟩ := hw
            refine mst_57 hx hb hE hap hR hS hi_56 dX2_multiplies_56 (fun σ56 e_σ56 H locs hR hS => ?_)
            have hw := hw σ56 e_σ56
            clear e_σ56
            refine lv_iinc (k := 2) (lv' := [(2, .int (x2 + (-1))), (0, .ref o), (1, .int x1), (3, .long x3), (5, .int x5)]) hx hb dX2_multiplies_57 hl rfl (congrArg (x2 + ·) (by decide : Int32.ofInt (-1) = (-1))) (by decide) rfl (fun ls hl => ?_)
            refine lv_goto (tgt := 3) hx hb dX2_multiplies_60 (by decide) ?_
            exact ih3 σ56 (x2 + (-1)) hw H locs ls hR hS (lv_sub hl [1, 2, 0] rfl)
          · have hw := hw.2 c_15
            refine lv_aload_n hx hb dX2_multiplies_18 rfl (lv_at hl 0 rfl) ?_
            refine lv_lload_n hx hb dX2_multiplies_19 rfl (lv_at hl 3 rfl) ?_
            refine lv_aload_n hx hb dX2_multiplies_20 rfl (lv_at hl 0 rfl) ?_
            refine mg_57 hx hb hts hown hE hR dX2_multiplies_21 ?_
            refine lv_iload hx hb dX2_multiplies_24 (lv_at hl 4 rfl) ?_
            obtain ⟨hi_26, hw⟩ := hw
            refine ma_57 hx hb hE hR hi_26 dX2_multiplies_26 ?_
            refine lv_aload_n hx hb dX2_multiplies_27 rfl (lv_at hl 0 rfl) ?_
            refine mg_9 hx hb hts hown hE hR dX2_multiplies_28 ?_
            refine lv_iload_n hx hb dX2_multiplies_31 rfl (lv_at hl 1 rfl) ?_
            refine lv_iload_n hx hb dX2_multiplies_32 rfl (lv_at hl 2 rfl) ?_
            refine lv_iadd hx hb dX2_multiplies_33 ?_
            refine lv_iload hx hb dX2_multiplies_34 (lv_at hl 4 rfl) ?_
            refine lv_isub hx hb dX2_multiplies_36 ?_
            obtain ⟨hi_37, hw⟩ := hw
            refine ma_9 hx hb hE hR hi_37 dX2_multiplies_37 ?_
            refine lv_lmul hx hb dX2_multiplies_38 ?_
            refine lv_ladd hx hb dX2_multiplies_39 ?_
            refine mc_vlr (As := [.long (x3 + ((mgl σ 57 x5.toNatClampNeg) * (mgl σ 9 ((x1 + x2) - x5).toNatClampNeg)))]) (rest := []) X (mM_number l G o ρ hap σ (x3 + ((mgl σ 57 x5.toNatClampNeg) * (mgl σ 9 ((x1 + x2) - x5).toNatClampNeg))) _ hw) (lw_V q2297 q2299 qs56 q_ini2 q2300) hd2_number (mm_le hRf rfl) (mm_le hRl rfl) rfl rfl (Nat.le_of_ble_eq_true rfl) dX2_multiplies_40 hR hS hl.1 (fun r40 H locs hw hR hS => ?_)
            refine lv_lstore_n (lv' := [(3, .long r40), (0, .ref o), (1, .int x1), (2, .int x2), (5, .int x5)]) hx hb dX2_multiplies_43 rfl hl (by decide) rfl (fun ls hl => ?_)
            refine lv_iinc (k := 4) (lv' := [(5, .int (x5 + 1)), (3, .long r40), (0, .ref o), (1, .int x1), (2, .int x2)]) hx hb dX2_multiplies_44 hl rfl (congrArg (x5 + ·) (by decide : Int32.ofInt 1 = 1)) (by decide) rfl (fun ls hl => ?_)
            refine lv_goto (tgt := 12) hx hb dX2_multiplies_47 (by decide) ?_
            exact ih12 r40 (x5 + 1) hw H locs ls hR hS (lv_sub hl [2, 3, 4, 1, 0] rfl)
      intro σ x2 hw H locs ls hR hS hl
      rw [wM_multiplies_l3] at hw
      refine lv_iload_n hx hb dX2_multiplies_3 rfl (lv_at hl 2 rfl) ?_
      refine lv_if_lt (tgt := 63) hx hb dX2_multiplies_4 (by decide) (fun c_4 => ?_) (fun c_4 => ?_)
      · have hw := hw.1 c_4
        exact hret _ _ _ _ _ hw hR hS dX2_multiplies_63
      · have hw := hw.2 c_4
        refine lv_lconst (v := 0) hx hb dX2_multiplies_7 (by decide) ?_
        refine lv_lstore_n (lv' := [(3, .long 0), (0, .ref o), (1, .int x1), (2, .int x2)]) hx hb dX2_multiplies_8 rfl hl (by decide) rfl (fun ls hl => ?_)
        refine lv_iconst (v := 0) hx hb dX2_multiplies_9 (by decide) ?_
        refine lv_istore (lv' := [(5, .int 0), (3, .long 0), (0, .ref o), (1, .int x1), (2, .int x2)]) hx hb dX2_multiplies_10 hl (by decide) rfl (fun ls hl => ?_)
        obtain ⟨n12, hw⟩ := hw
        exact hL12 σ x2 n12 (0 : Int64) (0 : Int32) hw H locs ls hR hS (lv_sub hl [2, 3, 4, 1, 0] rfl)
  intro H ls hR hS hl
  have hl : lv_has ls 6 [(0, .ref o), (1, .int x1)] := hl
  generalize ([] : List Loc) = locs at hS ⊢
  unfold wM_multiplies at hw
  refine lv_bipush (v := 8) hx hb dX2_multiplies_0 (by decide) ?_
  refine lv_istore_n (lv' := [(2, .int 8), (0, .ref o), (1, .int x1)]) hx hb dX2_multiplies_2 rfl hl (by decide) rfl (fun ls hl => ?_)
  obtain ⟨n3, hw⟩ := hw
  exact hL3 x1 n3 σ (8 : Int32) hw H locs ls hR hS (lv_sub hl [1, 2, 0] rfl)
def wM_laysKey_l199  (Q : mS → Prop)  (x1 : Int32) : Nat → mS → Int32 → Prop
  | 0, _, _ => False
  | n + 1, σ, x5 => (((9 : Int32) ≤ x5 → Q σ) ∧ (¬ (9 : Int32) ≤ x5 → vp_in ((9 * x1) + x5) 369 ∧ (vp_in x5 9 ∧ (wM_number σ ((mgl σ 9 ((9 * x1) + x5).toNatClampNeg) - (mgl σ 57 x5.toNatClampNeg)) (fun r238 => vp_in ((9 * x1) + x5) 369 ∧ (∀ σ241 : mS, σ241 = mpl σ 9 ((9 * x1) + x5).toNatClampNeg r238 → wM_laysKey_l199  Q  x1 n σ241 (x5 + 1)))))))
def wM_laysKey_l153 (rec141 : mS → Int32 → Prop) (Q : mS → Prop)  (x1 : Int32) (x3 : Int32) (x5 : Int32) : Nat → mS → Int32 → Prop
  | 0, _, _ => False
  | n + 1, σ, x6 => vp_in ((7 * x3) + x5) 448 ∧ ((((mga σ 42 ((7 * x3) + x5).toNatClampNeg) ≤ x6 → rec141 σ (x5 + 1)) ∧ (¬ (mga σ 42 ((7 * x3) + x5).toNatClampNeg) ≤ x6 → vp_in x5 8 ∧ (wM_multiplies σ (9 * (mga σ 53 x5.toNatClampNeg)) (fun σ181 => wM_laysKey_l153 rec141 Q  x1 x3 x5 n σ181 (x6 + 1))))))
def wM_laysKey_l141  (Q : mS → Prop)  (x1 : Int32) (x3 : Int32) : Nat → mS → Int32 → Prop
  | 0, _, _ => False
  | n + 1, σ, x5 => (((mgi σ 49) ≤ x5 → (∃ k199 : Nat, wM_laysKey_l199  Q  x1 k199 σ (0 : Int32))) ∧ (¬ (mgi σ 49) ≤ x5 → (∃ k153 : Nat, wM_laysKey_l153 (fun z z5 => wM_laysKey_l141  Q  x1 x3 n z z5) Q  x1 x3 x5 k153 σ (0 : Int32))))
def wM_laysKey_l95 (rec78 : mS → Int32 → Prop) (Q : mS → Prop)  (x1 : Int32) (x3 : Int32) (x5 : Int32) : Nat → mS → Int32 → Prop
  | 0, _, _ => False
  | n + 1, σ, x6 => (((9 : Int32) ≤ x6 → rec78 σ (x5 + 1)) ∧ (¬ (9 : Int32) ≤ x6 → vp_in x6 9 ∧ (wM_number σ ((mgl σ 57 x6.toNatClampNeg) * (mgi σ 0).toInt64) (fun r122 => vp_in x6 9 ∧ (∀ σ125 : mS, σ125 = mpl σ 57 x6.toNatClampNeg r122 → wM_laysKey_l95 rec78 Q  x1 x3 x5 n σ125 (x6 + 1))))))
def wM_laysKey_l78  (Q : mS → Prop)  (x1 : Int32) (x3 : Int32) : Nat → mS → Int32 → Prop
  | 0, _, _ => False
  | n + 1, σ, x5 => vp_in (7 * x3) 448 ∧ ((((mga σ 42 (7 * x3).toNatClampNeg) ≤ x5 → (∃ k141 : Nat, wM_laysKey_l141  Q  x1 x3 k141 σ (1 : Int32))) ∧ (¬ (mga σ 42 (7 * x3).toNatClampNeg) ≤ x5 → (∃ k95 : Nat, wM_laysKey_l95 (fun z z5 => wM_laysKey_l78  Q  x1 x3 n z z5) Q  x1 x3 x5 k95 σ (0 : Int32)))))
def wM_laysKey_l36  (Q : mS → Prop)  (x1 : Int32) (x3 : Int32) (x4 : Int32) : Nat → mS → Int32 → Prop
  | 0, _, _ => False
  | n + 1, σ, x5 => (((9 : Int32) ≤ x5 → wM_begins σ (x4).toInt64 (fun σ72 => (∃ k78 : Nat, wM_laysKey_l78  Q  x1 x3 k78 σ72 (0 : Int32)))) ∧ (¬ (9 : Int32) ≤ x5 → vp_in x5 9 ∧ (vp_in ((9 * x1) + x5) 369 ∧ (∀ σ61 : mS, σ61 = mpl σ 9 ((9 * x1) + x5).toNatClampNeg (mgl σ 57 x5.toNatClampNeg) → wM_laysKey_l36  Q  x1 x3 x4 n σ61 (x5 + 1)))))
def wM_laysKey_l8  (Q : mS → Prop)  (x1 : Int32) (x2 : Int32) (x3 : Int32) (x4 : Int32) : Nat → mS → Int32 → Prop
  | 0, _, _ => False
  | n + 1, σ, x5 => vp_in x3 64 ∧ ((((mga σ 39 x3.toNatClampNeg) ≤ x5 → (∃ k36 : Nat, wM_laysKey_l36  Q  x1 x3 x4 k36 σ (0 : Int32))) ∧ (¬ (mga σ 39 x3.toNatClampNeg) ≤ x5 → wM_multiplies σ (9 * x2) (fun σ24 => wM_laysKey_l8  Q  x1 x2 x3 x4 n σ24 (x5 + 1)))))
def wM_laysKey (σ : mS) (x1 : Int32) (x2 : Int32) (x3 : Int32) (x4 : Int32) (Q : mS → Prop) : Prop :=
  wM_begins σ (1 : Int64) (fun σ2 => (∃ k8 : Nat, wM_laysKey_l8  Q  x1 x2 x3 x4 k8 σ2 (0 : Int32)))
set_option maxHeartbeats 4000000 in
theorem mM_laysKey (l : Launch) (G : mG) (o : Nat) (ρ : Nat → Nat) (hap : mAp o ρ) (σ : mS) (x1 : Int32) (x2 : Int32) (x3 : Int32) (x4 : Int32) (Q : mS → Prop) (hw : wM_laysKey σ x1 x2 x3 x4 Q) : mMetV l G yX2_laysKey (ws_ yX2_laysKey cX2_laysKey 7 none) 2 49 o ρ [.ref o, .int x1, .int x2, .int x3, .int x4] σ Q := by
  refine mo_V plain2 rfl (Nat.le_of_ble_eq_true rfl) ?_
  intro p e s R m args below meth c QQ X hRf hRl hret
  obtain ⟨hx, hb, hml, hown, hts, hE⟩ := id X
  have hL199 : ∀ (x1 : Int32) (n199 : Nat) (σ : mS) (x5 : Int32), wM_laysKey_l199  Q  x1 n199 σ x5 → ∀ (H : Heap) (locs : List Loc) (ls : Array Slot), mR G o ρ σ H → va_S (mA o ρ) s.heap H locs → lv_has ls 7 [(0, .ref o), (1, .int x1), (5, .int x5)] → W p l e R s m args below meth c H locs 0 0 QQ (F0 m 199 ls []) := by
    intro x1 n199
    induction n199 with
    | zero => intro σ x5 hw; exact hw.elim
    | succ n199 ih199 =>
      intro σ x5 hw H locs ls hR hS hl
      rw [wM_laysKey_l199] at hw
      refine lv_iload hx hb dX2_laysKey_199 (lv_at hl 2 rfl) ?_
      refine lv_bipush (v := 9) hx hb dX2_laysKey_201 (by decide) ?_
      refine lv_icmp_ge (tgt := 248) hx hb dX2_laysKey_203 (by decide) (fun c_203 => ?_) (fun c_203 => ?_)
      · have hw := hw.1 c_203
        exact hret _ _ _ _ _ hw hR hS dX2_laysKey_248
      · have hw := hw.2 c_203
        refine lv_aload_n hx hb dX2_laysKey_206 rfl (lv_at hl 0 rfl) ?_
        refine mg_9 hx hb hts hown hE hR dX2_laysKey_207 ?_
        refine lv_bipush (v := 9) hx hb dX2_laysKey_210 (by decide) ?_
        refine lv_iload_n hx hb dX2_laysKey_212 rfl (lv_at hl 1 rfl) ?_
        refine lv_imul hx hb dX2_laysKey_213 ?_
        refine lv_iload hx hb dX2_laysKey_214 (lv_at hl 2 rfl) ?_
        refine lv_iadd hx hb dX2_laysKey_216 ?_
        refine lv_aload_n hx hb dX2_laysKey_217 rfl (lv_at hl 0 rfl) ?_
        refine lv_aload_n hx hb dX2_laysKey_218 rfl (lv_at hl 0 rfl) ?_
        refine mg_9 hx hb hts hown hE hR dX2_laysKey_219 ?_
        refine lv_bipush (v := 9) hx hb dX2_laysKey_222 (by decide) ?_
        refine lv_iload_n hx hb dX2_laysKey_224 rfl (lv_at hl 1 rfl) ?_
        refine lv_imul hx hb dX2_laysKey_225 ?_
        refine lv_iload hx hb dX2_laysKey_226 (lv_at hl 2 rfl) ?_
        refine lv_iadd hx hb dX2_laysKey_228 ?_
        obtain ⟨hi_229, hw⟩ := hw
        refine ma_9 hx hb hE hR hi_229 dX2_laysKey_229 ?_
        refine lv_aload_n hx hb dX2_laysKey_230 rfl (lv_at hl 0 rfl) ?_
        refine mg_57 hx hb hts hown hE hR dX2_laysKey_231 ?_
        refine lv_iload hx hb dX2_laysKey_234 (lv_at hl 2 rfl) ?_
        obtain ⟨hi_236, hw⟩ := hw
        refine ma_57 hx hb hE hR hi_236 dX2_laysKey_236 ?_
        refine lv_lsub hx hb dX2_laysKey_237 ?_
        refine mc_vlr (As := [.long ((mgl σ 9 ((9 * x1) + x5).toNatClampNeg) - (mgl σ 57 x5.toNatClampNeg))]) (rest := [.int ((9 * x1) + x5), .ref (ρ 9)]) X (mM_number l G o ρ hap σ ((mgl σ 9 ((9 * x1) + x5).toNatClampNeg) - (mgl σ 57 x5.toNatClampNeg)) _ hw) (lw_V q2297 q2299 qs56 q_ini2 q2300) hd2_number (mm_le hRf rfl) (mm_le hRl rfl) rfl rfl (Nat.le_of_ble_eq_true rfl) dX2_laysKey_238 hR hS hl.1 (fun r238 H locs hw hR hS => ?_)
        obtain ⟨hi_241, hw⟩ := hw
        refine mst_9 hx hb hE hap hR hS hi_241 dX2_laysKey_241 (fun σ241 e_σ241 H locs hR hS => ?_)
        have hw := hw σ241 e_σ241
        clear e_σ241
        refine lv_iinc (k := 2) (lv' := [(5, .int (x5 + 1)), (0, .ref o), (1, .int x1)]) hx hb dX2_laysKey_242 hl rfl (congrArg (x5 + ·) (by decide : Int32.ofInt 1 = 1)) (by decide) rfl (fun ls hl => ?_)
        refine lv_goto (tgt := 199) hx hb dX2_laysKey_245 (by decide) ?_
        exact ih199 σ241 (x5 + 1) hw H locs ls hR hS (lv_sub hl [1, 2, 0] rfl)
  have hL141 : ∀ (x1 : Int32) (x3 : Int32) (n141 : Nat) (σ : mS) (x5 : Int32), wM_laysKey_l141  Q  x1 x3 n141 σ x5 → ∀ (H : Heap) (locs : List Loc) (ls : Array Slot), mR G o ρ σ H → va_S (mA o ρ) s.heap H locs → lv_has ls 7 [(0, .ref o), (1, .int x1), (3, .int x3), (5, .int x5)] → W p l e R s m args below meth c H locs 0 0 QQ (F0 m 141 ls []) := by
    intro x1 x3 n141
    induction n141 with
    | zero => intro σ x5 hw; exact hw.elim
    | succ n141 ih141 =>
      have hL153 : ∀ (x5 : Int32) (n153 : Nat) (σ : mS) (x6 : Int32), wM_laysKey_l153 (wM_laysKey_l141  Q  x1 x3 n141) Q  x1 x3 x5 n153 σ x6 → ∀ (H : Heap) (locs : List Loc) (ls : Array Slot), mR G o ρ σ H → va_S (mA o ρ) s.heap H locs → lv_has ls 7 [(0, .ref o), (1, .int x1), (3, .int x3), (5, .int x5), (6, .int x6)] → W p l e R s m args below meth c H locs 0 0 QQ (F0 m 153 ls []) := by
        intro x5 n153
        induction n153 with
        | zero => intro σ x6 hw; exact hw.elim
        | succ n153 ih153 =>
          intro σ x6 hw H locs ls hR hS hl
          rw [wM_laysKey_l153] at hw
          refine lv_iload hx hb dX2_laysKey_153 (lv_at hl 4 rfl) ?_
          refine lv_aload_n hx hb dX2_laysKey_155 rfl (lv_at hl 0 rfl) ?_
          refine mg_42 hx hb hts hown hE hR dX2_laysKey_156 ?_
          refine lv_bipush (v := 7) hx hb dX2_laysKey_159 (by decide) ?_
          refine lv_iload_n hx hb dX2_laysKey_161 rfl (lv_at hl 2 rfl) ?_
          refine lv_imul hx hb dX2_laysKey_162 ?_
          refine lv_iload hx hb dX2_laysKey_163 (lv_at hl 3 rfl) ?_
          refine lv_iadd hx hb dX2_laysKey_165 ?_
          obtain ⟨hi_166, hw⟩ := hw
          refine ma_42 hx hb hE hR hi_166 dX2_laysKey_166 ?_
          refine lv_icmp_ge (tgt := 190) hx hb dX2_laysKey_167 (by decide) (fun c_167 => ?_) (fun c_167 => ?_)
          · have hw := hw.1 c_167
            refine lv_iinc (k := 3) (lv' := [(5, .int (x5 + 1)), (0, .ref o), (1, .int x1), (3, .int x3), (6, .int x6)]) hx hb dX2_laysKey_190 hl rfl (congrArg (x5 + ·) (by decide : Int32.ofInt 1 = 1)) (by decide) rfl (fun ls hl => ?_)
            refine lv_goto (tgt := 141) hx hb dX2_laysKey_193 (by decide) ?_
            exact ih141 σ (x5 + 1) hw H locs ls hR hS (lv_sub hl [1, 2, 3, 0] rfl)
          · have hw := hw.2 c_167
            refine lv_aload_n hx hb dX2_laysKey_170 rfl (lv_at hl 0 rfl) ?_
            refine lv_bipush (v := 9) hx hb dX2_laysKey_171 (by decide) ?_
            refine lv_aload_n hx hb dX2_laysKey_173 rfl (lv_at hl 0 rfl) ?_
            refine mg_53 hx hb hts hown hE hR dX2_laysKey_174 ?_
            refine lv_iload hx hb dX2_laysKey_177 (lv_at hl 3 rfl) ?_
            obtain ⟨hi_179, hw⟩ := hw
            refine ma_53 hx hb hE hR hi_179 dX2_laysKey_179 ?_
            refine lv_imul hx hb dX2_laysKey_180 ?_
            refine mc_vv (As := [.int (9 * (mga σ 53 x5.toNatClampNeg))]) (rest := []) X (mM_multiplies l G o ρ hap σ (9 * (mga σ 53 x5.toNatClampNeg)) _ hw) (lw_V q2446 q2448 qs90 q_ini2 q2449) hd2_multiplies (mm_le hRf rfl) (mm_le hRl rfl) rfl rfl (Nat.le_of_ble_eq_true rfl) dX2_laysKey_181 hR hS hl.1 (fun σ181 H locs hw hR hS => ?_)
            refine lv_iinc (k := 4) (lv' := [(6, .int (x6 + 1)), (0, .ref o), (1, .int x1), (3, .int x3), (5, .int x5)]) hx hb dX2_laysKey_184 hl rfl (congrArg (x6 + ·) (by decide : Int32.ofInt 1 = 1)) (by decide) rfl (fun ls hl => ?_)
            refine lv_goto (tgt := 153) hx hb dX2_laysKey_187 (by decide) ?_
            exact ih153 σ181 (x6 + 1) hw H locs ls hR hS (lv_sub hl [1, 2, 3, 4, 0] rfl)
      intro σ x5 hw H locs ls hR hS hl
      rw [wM_laysKey_l141] at hw
      refine lv_iload hx hb dX2_laysKey_141 (lv_at hl 3 rfl) ?_
      refine lv_aload_n hx hb dX2_laysKey_143 rfl (lv_at hl 0 rfl) ?_
      refine mg_49 hx hb hts hown hE hR dX2_laysKey_144 ?_
      refine lv_icmp_ge (tgt := 196) hx hb dX2_laysKey_147 (by decide) (fun c_147 => ?_) (fun c_147 => ?_)
      · have hw := hw.1 c_147
        refine lv_iconst (v := 0) hx hb dX2_laysKey_196 (by decide) ?_
        refine lv_istore (lv' := [(5, .int 0), (0, .ref o), (1, .int x1), (3, .int x3)]) hx hb dX2_laysKey_197 hl (by decide) rfl (fun ls hl => ?_)
        obtain ⟨n199, hw⟩ := hw
        exact hL199 x1 n199 σ (0 : Int32) hw H locs ls hR hS (lv_sub hl [1, 2, 0] rfl)
      · have hw := hw.2 c_147
        refine lv_iconst (v := 0) hx hb dX2_laysKey_150 (by decide) ?_
        refine lv_istore (lv' := [(6, .int 0), (0, .ref o), (1, .int x1), (3, .int x3), (5, .int x5)]) hx hb dX2_laysKey_151 hl (by decide) rfl (fun ls hl => ?_)
        obtain ⟨n153, hw⟩ := hw
        exact hL153 x5 n153 σ (0 : Int32) hw H locs ls hR hS (lv_sub hl [1, 2, 3, 4, 0] rfl)
  have hL78 : ∀ (x1 : Int32) (x3 : Int32) (n78 : Nat) (σ : mS) (x5 : Int32), wM_laysKey_l78  Q  x1 x3 n78 σ x5 → ∀ (H : Heap) (locs : List Loc) (ls : Array Slot), mR G o ρ σ H → va_S (mA o ρ) s.heap H locs → lv_has ls 7 [(0, .ref o), (1, .int x1), (3, .int x3), (5, .int x5)] → W p l e R s m args below meth c H locs 0 0 QQ (F0 m 78 ls []) := by
    intro x1 x3 n78
    induction n78 with
    | zero => intro σ x5 hw; exact hw.elim
    | succ n78 ih78 =>
      have hL95 : ∀ (x5 : Int32) (n95 : Nat) (σ : mS) (x6 : Int32), wM_laysKey_l95 (wM_laysKey_l78  Q  x1 x3 n78) Q  x1 x3 x5 n95 σ x6 → ∀ (H : Heap) (locs : List Loc) (ls : Array Slot), mR G o ρ σ H → va_S (mA o ρ) s.heap H locs → lv_has ls 7 [(0, .ref o), (1, .int x1), (3, .int x3), (5, .int x5), (6, .int x6)] → W p l e R s m args below meth c H locs 0 0 QQ (F0 m 95 ls []) := by
        intro x5 n95
        induction n95 with
        | zero => intro σ x6 hw; exact hw.elim
        | succ n95 ih95 =>
          intro σ x6 hw H locs ls hR hS hl
          rw [wM_laysKey_l95] at hw
          refine lv_iload hx hb dX2_laysKey_95 (lv_at hl 4 rfl) ?_
          refine lv_bipush (v := 9) hx hb dX2_laysKey_97 (by decide) ?_
          refine lv_icmp_ge (tgt := 132) hx hb dX2_laysKey_99 (by decide) (fun c_99 => ?_) (fun c_99 => ?_)
          · have hw := hw.1 c_99
            refine lv_iinc (k := 3) (lv' := [(5, .int (x5 + 1)), (0, .ref o), (1, .int x1), (3, .int x3), (6, .int x6)]) hx hb dX2_laysKey_132 hl rfl (congrArg (x5 + ·) (by decide : Int32.ofInt 1 = 1)) (by decide) rfl (fun ls hl => ?_)
            refine lv_goto (tgt := 78) hx hb dX2_laysKey_135 (by decide) ?_
            exact ih78 σ (x5 + 1) hw H locs ls hR hS (lv_sub hl [1, 2, 3, 0] rfl)
          · have hw := hw.2 c_99
            refine lv_aload_n hx hb dX2_laysKey_102 rfl (lv_at hl 0 rfl) ?_
            refine mg_57 hx hb hts hown hE hR dX2_laysKey_103 ?_
            refine lv_iload hx hb dX2_laysKey_106 (lv_at hl 4 rfl) ?_
            refine lv_aload_n hx hb dX2_laysKey_108 rfl (lv_at hl 0 rfl) ?_
            refine lv_aload_n hx hb dX2_laysKey_109 rfl (lv_at hl 0 rfl) ?_
            refine mg_57 hx hb hts hown hE hR dX2_laysKey_110 ?_
            refine lv_iload hx hb dX2_laysKey_113 (lv_at hl 4 rfl) ?_
            obtain ⟨hi_115, hw⟩ := hw
            refine ma_57 hx hb hE hR hi_115 dX2_laysKey_115 ?_
            refine lv_aload_n hx hb dX2_laysKey_116 rfl (lv_at hl 0 rfl) ?_
            refine mg_0 hx hb hts hown hE hR dX2_laysKey_117 ?_
            refine lv_i2l hx hb dX2_laysKey_120 rfl ?_
            refine lv_lmul hx hb dX2_laysKey_121 ?_
            refine mc_vlr (As := [.long ((mgl σ 57 x6.toNatClampNeg) * (mgi σ 0).toInt64)]) (rest := [.int x6, .ref (ρ 57)]) X (mM_number l G o ρ hap σ ((mgl σ 57 x6.toNatClampNeg) * (mgi σ 0).toInt64) _ hw) (lw_V q2297 q2299 qs56 q_ini2 q2300) hd2_number (mm_le hRf rfl) (mm_le hRl rfl) rfl rfl (Nat.le_of_ble_eq_true rfl) dX2_laysKey_122 hR hS hl.1 (fun r122 H locs hw hR hS => ?_)
            obtain ⟨hi_125, hw⟩ := hw
            refine mst_57 hx hb hE hap hR hS hi_125 dX2_laysKey_125 (fun σ125 e_σ125 H locs hR hS => ?_)
            have hw := hw σ125 e_σ125
            clear e_σ125
            refine lv_iinc (k := 4) (lv' := [(6, .int (x6 + 1)), (0, .ref o), (1, .int x1), (3, .int x3), (5, .int x5)]) hx hb dX2_laysKey_126 hl rfl (congrArg (x6 + ·) (by decide : Int32.ofInt 1 = 1)) (by decide) rfl (fun ls hl => ?_)
            refine lv_goto (tgt := 95) hx hb dX2_laysKey_129 (by decide) ?_
            exact ih95 σ125 (x6 + 1) hw H locs ls hR hS (lv_sub hl [1, 2, 3, 4, 0] rfl)
      intro σ x5 hw H locs ls hR hS hl
      rw [wM_laysKey_l78] at hw
      refine lv_iload hx hb dX2_laysKey_78 (lv_at hl 3 rfl) ?_
      refine lv_aload_n hx hb dX2_laysKey_80 rfl (lv_at hl 0 rfl) ?_
      refine mg_42 hx hb hts hown hE hR dX2_laysKey_81 ?_
      refine lv_bipush (v := 7) hx hb dX2_laysKey_84 (by decide) ?_
      refine lv_iload_n hx hb dX2_laysKey_86 rfl (lv_at hl 2 rfl) ?_
      refine lv_imul hx hb dX2_laysKey_87 ?_
      obtain ⟨hi_88, hw⟩ := hw
      refine ma_42 hx hb hE hR hi_88 dX2_laysKey_88 ?_
      refine lv_icmp_ge (tgt := 138) hx hb dX2_laysKey_89 (by decide) (fun c_89 => ?_) (fun c_89 => ?_)
      · have hw := hw.1 c_89
        refine lv_iconst (v := 1) hx hb dX2_laysKey_138 (by decide) ?_
        refine lv_istore (lv' := [(5, .int 1), (0, .ref o), (1, .int x1), (3, .int x3)]) hx hb dX2_laysKey_139 hl (by decide) rfl (fun ls hl => ?_)
        obtain ⟨n141, hw⟩ := hw
        exact hL141 x1 x3 n141 σ (1 : Int32) hw H locs ls hR hS (lv_sub hl [1, 2, 3, 0] rfl)
      · have hw := hw.2 c_89
        refine lv_iconst (v := 0) hx hb dX2_laysKey_92 (by decide) ?_
        refine lv_istore (lv' := [(6, .int 0), (0, .ref o), (1, .int x1), (3, .int x3), (5, .int x5)]) hx hb dX2_laysKey_93 hl (by decide) rfl (fun ls hl => ?_)
        obtain ⟨n95, hw⟩ := hw
        exact hL95 x5 n95 σ (0 : Int32) hw H locs ls hR hS (lv_sub hl [1, 2, 3, 4, 0] rfl)
  have hL36 : ∀ (x1 : Int32) (x3 : Int32) (x4 : Int32) (n36 : Nat) (σ : mS) (x5 : Int32), wM_laysKey_l36  Q  x1 x3 x4 n36 σ x5 → ∀ (H : Heap) (locs : List Loc) (ls : Array Slot), mR G o ρ σ H → va_S (mA o ρ) s.heap H locs → lv_has ls 7 [(0, .ref o), (1, .int x1), (3, .int x3), (4, .int x4), (5, .int x5)] → W p l e R s m args below meth c H locs 0 0 QQ (F0 m 36 ls []) := by
    intro x1 x3 x4 n36
    induction n36 with
    | zero => intro σ x5 hw; exact hw.elim
    | succ n36 ih36 =>
      intro σ x5 hw H locs ls hR hS hl
      rw [wM_laysKey_l36] at hw
      refine lv_iload hx hb dX2_laysKey_36 (lv_at hl 4 rfl) ?_
      refine lv_bipush (v := 9) hx hb dX2_laysKey_38 (by decide) ?_
      refine lv_icmp_ge (tgt := 68) hx hb dX2_laysKey_40 (by decide) (fun c_40 => ?_) (fun c_40 => ?_)
      · have hw := hw.1 c_40
        refine lv_aload_n hx hb dX2_laysKey_68 rfl (lv_at hl 0 rfl) ?_
        refine lv_iload hx hb dX2_laysKey_69 (lv_at hl 3 rfl) ?_
        refine lv_i2l hx hb dX2_laysKey_71 rfl ?_
        refine mc_vv (As := [.long (x4).toInt64]) (rest := []) X (mM_begins l G o ρ hap σ (x4).toInt64 _ hw) (lw_V q2442 q2444 qs89 q_ini2 q2445) hd2_begins (mm_le hRf rfl) (mm_le hRl rfl) rfl rfl (Nat.le_of_ble_eq_true rfl) dX2_laysKey_72 hR hS hl.1 (fun σ72 H locs hw hR hS => ?_)
        refine lv_iconst (v := 0) hx hb dX2_laysKey_75 (by decide) ?_
        refine lv_istore (lv' := [(5, .int 0), (0, .ref o), (1, .int x1), (3, .int x3), (4, .int x4)]) hx hb dX2_laysKey_76 hl (by decide) rfl (fun ls hl => ?_)
        obtain ⟨n78, hw⟩ := hw
        exact hL78 x1 x3 n78 σ72 (0 : Int32) hw H locs ls hR hS (lv_sub hl [1, 2, 3, 0] rfl)
      · have hw := hw.2 c_40
        refine lv_aload_n hx hb dX2_laysKey_43 rfl (lv_at hl 0 rfl) ?_
        refine mg_9 hx hb hts hown hE hR dX2_laysKey_44 ?_
        refine lv_bipush (v := 9) hx hb dX2_laysKey_47 (by decide) ?_
        refine lv_iload_n hx hb dX2_laysKey_49 rfl (lv_at hl 1 rfl) ?_
        refine lv_imul hx hb dX2_laysKey_50 ?_
        refine lv_iload hx hb dX2_laysKey_51 (lv_at hl 4 rfl) ?_
        refine lv_iadd hx hb dX2_laysKey_53 ?_
        refine lv_aload_n hx hb dX2_laysKey_54 rfl (lv_at hl 0 rfl) ?_
        refine mg_57 hx hb hts hown hE hR dX2_laysKey_55 ?_
        refine lv_iload hx hb dX2_laysKey_58 (lv_at hl 4 rfl) ?_
        obtain ⟨hi_60, hw⟩ := hw
        refine ma_57 hx hb hE hR hi_60 dX2_laysKey_60 ?_
        obtain ⟨hi_61, hw⟩ := hw
        refine mst_9 hx hb hE hap hR hS hi_61 dX2_laysKey_61 (fun σ61 e_σ61 H locs hR hS => ?_)
        have hw := hw σ61 e_σ61
        clear e_σ61
        refine lv_iinc (k := 4) (lv' := [(5, .int (x5 + 1)), (0, .ref o), (1, .int x1), (3, .int x3), (4, .int x4)]) hx hb dX2_laysKey_62 hl rfl (congrArg (x5 + ·) (by decide : Int32.ofInt 1 = 1)) (by decide) rfl (fun ls hl => ?_)
        refine lv_goto (tgt := 36) hx hb dX2_laysKey_65 (by decide) ?_
        exact ih36 σ61 (x5 + 1) hw H locs ls hR hS (lv_sub hl [1, 2, 3, 4, 0] rfl)
  have hL8 : ∀ (x1 : Int32) (x2 : Int32) (x3 : Int32) (x4 : Int32) (n8 : Nat) (σ : mS) (x5 : Int32), wM_laysKey_l8  Q  x1 x2 x3 x4 n8 σ x5 → ∀ (H : Heap) (locs : List Loc) (ls : Array Slot), mR G o ρ σ H → va_S (mA o ρ) s.heap H locs → lv_has ls 7 [(0, .ref o), (1, .int x1), (2, .int x2), (3, .int x3), (4, .int x4), (5, .int x5)] → W p l e R s m args below meth c H locs 0 0 QQ (F0 m 8 ls []) := by
    intro x1 x2 x3 x4 n8
    induction n8 with
    | zero => intro σ x5 hw; exact hw.elim
    | succ n8 ih8 =>
      intro σ x5 hw H locs ls hR hS hl
      rw [wM_laysKey_l8] at hw
      refine lv_iload hx hb dX2_laysKey_8 (lv_at hl 5 rfl) ?_
      refine lv_aload_n hx hb dX2_laysKey_10 rfl (lv_at hl 0 rfl) ?_
      refine mg_39 hx hb hts hown hE hR dX2_laysKey_11 ?_
      refine lv_iload_n hx hb dX2_laysKey_14 rfl (lv_at hl 3 rfl) ?_
      obtain ⟨hi_15, hw⟩ := hw
      refine ma_39 hx hb hE hR hi_15 dX2_laysKey_15 ?_
      refine lv_icmp_ge (tgt := 33) hx hb dX2_laysKey_16 (by decide) (fun c_16 => ?_) (fun c_16 => ?_)
      · have hw := hw.1 c_16
        refine lv_iconst (v := 0) hx hb dX2_laysKey_33 (by decide) ?_
        refine lv_istore (lv' := [(5, .int 0), (0, .ref o), (1, .int x1), (2, .int x2), (3, .int x3), (4, .int x4)]) hx hb dX2_laysKey_34 hl (by decide) rfl (fun ls hl => ?_)
        obtain ⟨n36, hw⟩ := hw
        exact hL36 x1 x3 x4 n36 σ (0 : Int32) hw H locs ls hR hS (lv_sub hl [1, 2, 4, 5, 0] rfl)
      · have hw := hw.2 c_16
        refine lv_aload_n hx hb dX2_laysKey_19 rfl (lv_at hl 0 rfl) ?_
        refine lv_bipush (v := 9) hx hb dX2_laysKey_20 (by decide) ?_
        refine lv_iload_n hx hb dX2_laysKey_22 rfl (lv_at hl 2 rfl) ?_
        refine lv_imul hx hb dX2_laysKey_23 ?_
        refine mc_vv (As := [.int (9 * x2)]) (rest := []) X (mM_multiplies l G o ρ hap σ (9 * x2) _ hw) (lw_V q2446 q2448 qs90 q_ini2 q2449) hd2_multiplies (mm_le hRf rfl) (mm_le hRl rfl) rfl rfl (Nat.le_of_ble_eq_true rfl) dX2_laysKey_24 hR hS hl.1 (fun σ24 H locs hw hR hS => ?_)
        refine lv_iinc (k := 5) (lv' := [(5, .int (x5 + 1)), (0, .ref o), (1, .int x1), (2, .int x2), (3, .int x3), (4, .int x4)]) hx hb dX2_laysKey_27 hl rfl (congrArg (x5 + ·) (by decide : Int32.ofInt 1 = 1)) (by decide) rfl (fun ls hl => ?_)
        refine lv_goto (tgt := 8) hx hb dX2_laysKey_30 (by decide) ?_
        exact ih8 σ24 (x5 + 1) hw H locs ls hR hS (lv_sub hl [1, 2, 3, 4, 5, 0] rfl)
  intro H ls hR hS hl
  have hl : lv_has ls 7 [(0, .ref o), (1, .int x1), (2, .int x2), (3, .int x3), (4, .int x4)] := hl
  generalize ([] : List Loc) = locs at hS ⊢
  unfold wM_laysKey at hw
  refine lv_aload_n hx hb dX2_laysKey_0 rfl (lv_at hl 0 rfl) ?_
  refine lv_lconst (v := 1) hx hb dX2_laysKey_1 (by decide) ?_
  refine mc_vv (As := [.long (1 : Int64)]) (rest := []) X (mM_begins l G o ρ hap σ (1 : Int64) _ hw) (lw_V q2442 q2444 qs89 q_ini2 q2445) hd2_begins (mm_le hRf rfl) (mm_le hRl rfl) rfl rfl (Nat.le_of_ble_eq_true rfl) dX2_laysKey_2 hR hS hl.1 (fun σ2 H locs hw hR hS => ?_)
  refine lv_iconst (v := 0) hx hb dX2_laysKey_5 (by decide) ?_
  refine lv_istore (lv' := [(5, .int 0), (0, .ref o), (1, .int x1), (2, .int x2), (3, .int x3), (4, .int x4)]) hx hb dX2_laysKey_6 hl (by decide) rfl (fun ls hl => ?_)
  obtain ⟨n8, hw⟩ := hw
  exact hL8 x1 x2 x3 x4 n8 σ2 (0 : Int32) hw H locs ls hR hS (lv_sub hl [1, 2, 3, 4, 5, 0] rfl)
def wM_takesFactor_l172  (Q : mS → Prop)  (x2 : Int32) (x8 : Int32) : Nat → mS → Int32 → Prop
  | 0, _, _ => False
  | n + 1, σ, x9 => (((7 : Int32) ≤ x9 → wM_goesInto σ x8 (fun σ213 => Q σ213)) ∧ (¬ (7 : Int32) ≤ x9 → vp_in ((7 * x2) + x9) 448 ∧ (vp_in ((7 * x8) + x9) 280 ∧ (∀ σ203 : mS, σ203 = mpa σ 35 ((7 * x8) + x9).toNatClampNeg (mga σ 42 ((7 * x2) + x9).toNatClampNeg) → wM_takesFactor_l172  Q  x2 x8 n σ203 (x9 + 1)))))
def wM_takesFactor (σ : mS) (x1 : Int32) (x2 : Int32) (x3 : Int32) (Q : mS → Prop) : Prop :=
  vp_in x3 9 ∧ (vp_in x3 9 ∧ (vp_in (mgi σ 49) 8 ∧ (vp_in x2 64 ∧ (∀ v32 : Int32, v32 = ((mga σ 51 (mgi σ 49).toNatClampNeg) * (mga σ 39 x2.toNatClampNeg)) → (((mga σ 14 x3.toNatClampNeg) = (1 : Int32) → wM_addsLeaf σ (0 : Int32) v32 (mga σ 13 x3.toNatClampNeg) (v32 * (mga σ 13 x3.toNatClampNeg)) x1 (fun σ52 => Q σ52)) ∧ (¬ (mga σ 14 x3.toNatClampNeg) = (1 : Int32) → (((mga σ 13 x3.toNatClampNeg) ≤ (1 : Int32) → (((mgi σ 49) = (6 : Int32) → wM_addsLeaf σ (3 : Int32) (0 : Int32) (0 : Int32) ((mga σ 14 x3.toNatClampNeg) * v32) x1 (fun σ102 => Q σ102)) ∧ (¬ (mgi σ 49) = (6 : Int32) → wM_rootOf σ x3 (fun r110 => wM_newKnot σ x1 (mga σ 14 x3.toNatClampNeg) (fun r119 σ119 => wM_laysKey σ119 r119 x1 x2 r110 (fun σ131 => vp_in x2 64 ∧ (vp_in r119 40 ∧ (∀ σ146 : mS, σ146 = mpa σ131 32 r119.toNatClampNeg (mga σ131 39 x2.toNatClampNeg) → vp_in x2 64 ∧ (vp_in r119 40 ∧ (∀ σ159 : mS, σ159 = mpa σ146 33 r119.toNatClampNeg (mga σ146 41 x2.toNatClampNeg) → vp_in r119 40 ∧ (∀ σ168 : mS, σ168 = mpa σ159 34 r119.toNatClampNeg r110 → (∃ k172 : Nat, wM_takesFactor_l172  Q  x2 r119 k172 σ168 (0 : Int32))))))))))))) ∧ (¬ (mga σ 13 x3.toNatClampNeg) ≤ (1 : Int32) → wM_addsLeaf σ (2 : Int32) (0 : Int32) (0 : Int32) (((mga σ 13 x3.toNatClampNeg) * (mga σ 14 x3.toNatClampNeg)) * v32) x1 (fun σ77 => Q σ77)))))))))
set_option maxHeartbeats 4000000 in
theorem mM_takesFactor (l : Launch) (G : mG) (o : Nat) (ρ : Nat → Nat) (hap : mAp o ρ) (σ : mS) (x1 : Int32) (x2 : Int32) (x3 : Int32) (Q : mS → Prop) (hw : wM_takesFactor σ x1 x2 x3 Q) : mMetV l G yX2_takesFactor (ws_ yX2_takesFactor cX2_takesFactor 10 none) 8 207 o ρ [.ref o, .int x1, .int x2, .int x3] σ Q := by
  refine mo_V plain2 rfl (Nat.le_of_ble_eq_true rfl) ?_
  intro p e s R m args below meth c QQ X hRf hRl hret
  obtain ⟨hx, hb, hml, hown, hts, hE⟩ := id X
  have hL172 : ∀ (x2 : Int32) (x8 : Int32) (n172 : Nat) (σ : mS) (x9 : Int32), wM_takesFactor_l172  Q  x2 x8 n172 σ x9 → ∀ (H : Heap) (locs : List Loc) (ls : Array Slot), mR G o ρ σ H → va_S (mA o ρ) s.heap H locs → lv_has ls 10 [(0, .ref o), (2, .int x2), (8, .int x8), (9, .int x9)] → W p l e R s m args below meth c H locs 0 0 QQ (F0 m 172 ls []) := by
    intro x2 x8 n172
    induction n172 with
    | zero => intro σ x9 hw; exact hw.elim
    | succ n172 ih172 =>
      intro σ x9 hw H locs ls hR hS hl
      rw [wM_takesFactor_l172] at hw
      refine lv_iload hx hb dX2_takesFactor_172 (lv_at hl 3 rfl) ?_
      refine lv_bipush (v := 7) hx hb dX2_takesFactor_174 (by decide) ?_
      refine lv_icmp_ge (tgt := 210) hx hb dX2_takesFactor_176 (by decide) (fun c_176 => ?_) (fun c_176 => ?_)
      · have hw := hw.1 c_176
        refine lv_aload_n hx hb dX2_takesFactor_210 rfl (lv_at hl 0 rfl) ?_
        refine lv_iload hx hb dX2_takesFactor_211 (lv_at hl 2 rfl) ?_
        refine mc_vv (As := [.int x8]) (rest := []) X (mM_goesInto l G o ρ hap σ x8 _ hw) (lw_V q2367 q2369 qs71 q_ini2 q2370) hd2_goesInto (mm_le hRf rfl) (mm_le hRl rfl) rfl rfl (Nat.le_of_ble_eq_true rfl) dX2_takesFactor_213 hR hS hl.1 (fun σ213 H locs hw hR hS => ?_)
        exact hret _ _ _ _ _ hw hR hS dX2_takesFactor_216
      · have hw := hw.2 c_176
        refine lv_aload_n hx hb dX2_takesFactor_179 rfl (lv_at hl 0 rfl) ?_
        refine mg_35 hx hb hts hown hE hR dX2_takesFactor_180 ?_
        refine lv_bipush (v := 7) hx hb dX2_takesFactor_183 (by decide) ?_
        refine lv_iload hx hb dX2_takesFactor_185 (lv_at hl 2 rfl) ?_
        refine lv_imul hx hb dX2_takesFactor_187 ?_
        refine lv_iload hx hb dX2_takesFactor_188 (lv_at hl 3 rfl) ?_
        refine lv_iadd hx hb dX2_takesFactor_190 ?_
        refine lv_aload_n hx hb dX2_takesFactor_191 rfl (lv_at hl 0 rfl) ?_
        refine mg_42 hx hb hts hown hE hR dX2_takesFactor_192 ?_
        refine lv_bipush (v := 7) hx hb dX2_takesFactor_195 (by decide) ?_
        refine lv_iload_n hx hb dX2_takesFactor_197 rfl (lv_at hl 1 rfl) ?_
        refine lv_imul hx hb dX2_takesFactor_198 ?_
        refine lv_iload hx hb dX2_takesFactor_199 (lv_at hl 3 rfl) ?_
        refine lv_iadd hx hb dX2_takesFactor_201 ?_
        obtain ⟨hi_202, hw⟩ := hw
        refine ma_42 hx hb hE hR hi_202 dX2_takesFactor_202 ?_
        obtain ⟨hi_203, hw⟩ := hw
        refine mst_35 hx hb hE hap hR hS hi_203 dX2_takesFactor_203 (fun σ203 e_σ203 H locs hR hS => ?_)
        have hw := hw σ203 e_σ203
        clear e_σ203
        refine lv_iinc (k := 3) (lv' := [(9, .int (x9 + 1)), (0, .ref o), (2, .int x2), (8, .int x8)]) hx hb dX2_takesFactor_204 hl rfl (congrArg (x9 + ·) (by decide : Int32.ofInt 1 = 1)) (by decide) rfl (fun ls hl => ?_)
        refine lv_goto (tgt := 172) hx hb dX2_takesFactor_207 (by decide) ?_
        exact ih172 σ203 (x9 + 1) hw H locs ls hR hS (lv_sub hl [1, 2, 3, 0] rfl)
  intro H ls hR hS hl
  have hl : lv_has ls 10 [(0, .ref o), (1, .int x1), (2, .int x2), (3, .int x3)] := hl
  generalize ([] : List Loc) = locs at hS ⊢
  unfold wM_takesFactor at hw
  refine lv_aload_n hx hb dX2_takesFactor_0 rfl (lv_at hl 0 rfl) ?_
  refine mg_13 hx hb hts hown hE hR dX2_takesFactor_1 ?_
  refine lv_iload_n hx hb dX2_takesFactor_4 rfl (lv_at hl 3 rfl) ?_
  obtain ⟨hi_5, hw⟩ := hw
  refine ma_13 hx hb hE hR hi_5 dX2_takesFactor_5 ?_
  refine lv_istore (lv' := [(4, .int (mga σ 13 x3.toNatClampNeg)), (0, .ref o), (1, .int x1), (2, .int x2), (3, .int x3)]) hx hb dX2_takesFactor_6 hl (by decide) rfl (fun ls hl => ?_)
  refine lv_aload_n hx hb dX2_takesFactor_8 rfl (lv_at hl 1 rfl) ?_
  refine mg_14 hx hb hts hown hE hR dX2_takesFactor_9 ?_
  refine lv_iload_n hx hb dX2_takesFactor_12 rfl (lv_at hl 4 rfl) ?_
  obtain ⟨hi_13, hw⟩ := hw
  refine ma_14 hx hb hE hR hi_13 dX2_takesFactor_13 ?_
  refine lv_istore (lv' := [(5, .int (mga σ 14 x3.toNatClampNeg)), (4, .int (mga σ 13 x3.toNatClampNeg)), (0, .ref o), (1, .int x1), (2, .int x2), (3, .int x3)]) hx hb dX2_takesFactor_14 hl (by decide) rfl (fun ls hl => ?_)
  refine lv_aload_n hx hb dX2_takesFactor_16 rfl (lv_at hl 2 rfl) ?_
  refine mg_51 hx hb hts hown hE hR dX2_takesFactor_17 ?_
  refine lv_aload_n hx hb dX2_takesFactor_20 rfl (lv_at hl 2 rfl) ?_
  refine mg_49 hx hb hts hown hE hR dX2_takesFactor_21 ?_
  obtain ⟨hi_24, hw⟩ := hw
  refine ma_51 hx hb hE hR hi_24 dX2_takesFactor_24 ?_
  refine lv_aload_n hx hb dX2_takesFactor_25 rfl (lv_at hl 2 rfl) ?_
  refine mg_39 hx hb hts hown hE hR dX2_takesFactor_26 ?_
  refine lv_iload_n hx hb dX2_takesFactor_29 rfl (lv_at hl 4 rfl) ?_
  obtain ⟨hi_30, hw⟩ := hw
  refine ma_39 hx hb hE hR hi_30 dX2_takesFactor_30 ?_
  refine lv_imul hx hb dX2_takesFactor_31 ?_
  refine lv_topi (fun v32 e_v32 => ?_)
  have hw := hw v32 e_v32
  refine lv_istore (lv' := [(6, .int v32), (5, .int (mga σ 14 x3.toNatClampNeg)), (4, .int (mga σ 13 x3.toNatClampNeg)), (0, .ref o), (1, .int x1), (2, .int x2), (3, .int x3)]) hx hb dX2_takesFactor_32 hl (by decide) rfl (fun ls hl => ?_)
  refine lv_iload hx hb dX2_takesFactor_34 (lv_at hl 1 rfl) ?_
  refine lv_iconst (v := 1) hx hb dX2_takesFactor_36 (by decide) ?_
  refine lv_icmp_ne (tgt := 58) hx hb dX2_takesFactor_37 (by decide) (fun c_37 => ?_) (fun c_37 => ?_)
  · have hw := hw.2 c_37
    refine lv_iload hx hb dX2_takesFactor_58 (lv_at hl 2 rfl) ?_
    refine lv_iconst (v := 1) hx hb dX2_takesFactor_60 (by decide) ?_
    refine lv_icmp_le (tgt := 83) hx hb dX2_takesFactor_61 (by decide) (fun c_61 => ?_) (fun c_61 => ?_)
    · have hw := hw.1 c_61
      refine lv_aload_n hx hb dX2_takesFactor_83 rfl (lv_at hl 3 rfl) ?_
      refine mg_49 hx hb hts hown hE hR dX2_takesFactor_84 ?_
      refine lv_bipush (v := 6) hx hb dX2_takesFactor_87 (by decide) ?_
      refine lv_icmp_ne (tgt := 108) hx hb dX2_takesFactor_89 (by decide) (fun c_89 => ?_) (fun c_89 => ?_)
      · have hw := hw.2 c_89
        refine lv_aload_n hx hb dX2_takesFactor_108 rfl (lv_at hl 3 rfl) ?_
        refine lv_iload_n hx hb dX2_takesFactor_109 rfl (lv_at hl 6 rfl) ?_
        refine mc_vir (As := [.int x3]) (rest := []) X (mM_rootOf l G o ρ hap σ x3 _ hw) (lw_V q2359 q2361 qs69 q_ini2 q2362) hd2_rootOf (mm_le hRf rfl) (mm_le hRl rfl) rfl rfl (Nat.le_of_ble_eq_true rfl) dX2_takesFactor_110 hR hS hl.1 (fun r110 H locs hw hR hS => ?_)
        refine lv_istore (lv' := [(7, .int r110), (6, .int v32), (5, .int (mga σ 14 x3.toNatClampNeg)), (4, .int (mga σ 13 x3.toNatClampNeg)), (0, .ref o), (1, .int x1), (2, .int x2), (3, .int x3)]) hx hb dX2_takesFactor_113 hl (by decide) rfl (fun ls hl => ?_)
        refine lv_aload_n hx hb dX2_takesFactor_115 rfl (lv_at hl 4 rfl) ?_
        refine lv_iload_n hx hb dX2_takesFactor_116 rfl (lv_at hl 5 rfl) ?_
        refine lv_iload hx hb dX2_takesFactor_117 (lv_at hl 2 rfl) ?_
        refine mc_vi (As := [.int x1, .int (mga σ 14 x3.toNatClampNeg)]) (rest := []) X (mM_newKnot l G o ρ hap σ x1 (mga σ 14 x3.toNatClampNeg) _ hw) (lw_V q2363 q2365 qs70 q_ini2 q2366) hd2_newKnot (mm_le hRf rfl) (mm_le hRl rfl) rfl rfl (Nat.le_of_ble_eq_true rfl) dX2_takesFactor_119 hR hS hl.1 (fun r119 σ119 H locs hw hR hS => ?_)
        refine lv_istore (lv' := [(8, .int r119), (7, .int r110), (6, .int v32), (5, .int (mga σ 14 x3.toNatClampNeg)), (4, .int (mga σ 13 x3.toNatClampNeg)), (0, .ref o), (1, .int x1), (2, .int x2), (3, .int x3)]) hx hb dX2_takesFactor_122 hl (by decide) rfl (fun ls hl => ?_)
        refine lv_aload_n hx hb dX2_takesFactor_124 rfl (lv_at hl 5 rfl) ?_
        refine lv_iload hx hb dX2_takesFactor_125 (lv_at hl 0 rfl) ?_
        refine lv_iload_n hx hb dX2_takesFactor_127 rfl (lv_at hl 6 rfl) ?_
        refine lv_iload_n hx hb dX2_takesFactor_128 rfl (lv_at hl 7 rfl) ?_
        refine lv_iload hx hb dX2_takesFactor_129 (lv_at hl 1 rfl) ?_
        refine mc_vv (As := [.int r119, .int x1, .int x2, .int r110]) (rest := []) X (mM_laysKey l G o ρ hap σ119 r119 x1 x2 r110 _ hw) (lw_V q2438 q2440 qs88 q_ini2 q2441) hd2_laysKey (mm_le hRf rfl) (mm_le hRl rfl) rfl rfl (Nat.le_of_ble_eq_true rfl) dX2_takesFactor_131 hR hS hl.1 (fun σ131 H locs hw hR hS => ?_)
        refine lv_aload_n hx hb dX2_takesFactor_134 rfl (lv_at hl 5 rfl) ?_
        refine mg_32 hx hb hts hown hE hR dX2_takesFactor_135 ?_
        refine lv_iload hx hb dX2_takesFactor_138 (lv_at hl 0 rfl) ?_
        refine lv_aload_n hx hb dX2_takesFactor_140 rfl (lv_at hl 5 rfl) ?_
        refine mg_39 hx hb hts hown hE hR dX2_takesFactor_141 ?_
        refine lv_iload_n hx hb dX2_takesFactor_144 rfl (lv_at hl 7 rfl) ?_
        obtain ⟨hi_145, hw⟩ := hw
        refine ma_39 hx hb hE hR hi_145 dX2_takesFactor_145 ?_
        obtain ⟨hi_146, hw⟩ := hw
        refine mst_32 hx hb hE hap hR hS hi_146 dX2_takesFactor_146 (fun σ146 e_σ146 H locs hR hS => ?_)
        have hw := hw σ146 e_σ146
        clear e_σ146
        refine lv_aload_n hx hb dX2_takesFactor_147 rfl (lv_at hl 5 rfl) ?_
        refine mg_33 hx hb hts hown hE hR dX2_takesFactor_148 ?_
        refine lv_iload hx hb dX2_takesFactor_151 (lv_at hl 0 rfl) ?_
        refine lv_aload_n hx hb dX2_takesFactor_153 rfl (lv_at hl 5 rfl) ?_
        refine mg_41 hx hb hts hown hE hR dX2_takesFactor_154 ?_
        refine lv_iload_n hx hb dX2_takesFactor_157 rfl (lv_at hl 7 rfl) ?_
        obtain ⟨hi_158, hw⟩ := hw
        refine ma_41 hx hb hE hR hi_158 dX2_takesFactor_158 ?_
        obtain ⟨hi_159, hw⟩ := hw
        refine mst_33 hx hb hE hap hR hS hi_159 dX2_takesFactor_159 (fun σ159 e_σ159 H locs hR hS => ?_)
        have hw := hw σ159 e_σ159
        clear e_σ159
        refine lv_aload_n hx hb dX2_takesFactor_160 rfl (lv_at hl 5 rfl) ?_
        refine mg_34 hx hb hts hown hE hR dX2_takesFactor_161 ?_
        refine lv_iload hx hb dX2_takesFactor_164 (lv_at hl 0 rfl) ?_
        refine lv_iload hx hb dX2_takesFactor_166 (lv_at hl 1 rfl) ?_
        obtain ⟨hi_168, hw⟩ := hw
        refine mst_34 hx hb hE hap hR hS hi_168 dX2_takesFactor_168 (fun σ168 e_σ168 H locs hR hS => ?_)
        have hw := hw σ168 e_σ168
        clear e_σ168
        refine lv_iconst (v := 0) hx hb dX2_takesFactor_169 (by decide) ?_
        refine lv_istore (lv' := [(9, .int 0), (8, .int r119), (7, .int r110), (6, .int v32), (5, .int (mga σ 14 x3.toNatClampNeg)), (4, .int (mga σ 13 x3.toNatClampNeg)), (0, .ref o), (1, .int x1), (2, .int x2), (3, .int x3)]) hx hb dX2_takesFactor_170 hl (by decide) rfl (fun ls hl => ?_)
        obtain ⟨n172, hw⟩ := hw
        exact hL172 x2 r119 n172 σ168 (0 : Int32) hw H locs ls hR hS (lv_sub hl [6, 8, 1, 0] rfl)
      · have hw := hw.1 c_89
        refine lv_aload_n hx hb dX2_takesFactor_92 rfl (lv_at hl 3 rfl) ?_
        refine lv_iconst (v := 3) hx hb dX2_takesFactor_93 (by decide) ?_
        refine lv_iconst (v := 0) hx hb dX2_takesFactor_94 (by decide) ?_
        refine lv_iconst (v := 0) hx hb dX2_takesFactor_95 (by decide) ?_
        refine lv_iload hx hb dX2_takesFactor_96 (lv_at hl 1 rfl) ?_
        refine lv_iload hx hb dX2_takesFactor_98 (lv_at hl 0 rfl) ?_
        refine lv_imul hx hb dX2_takesFactor_100 ?_
        refine lv_iload_n hx hb dX2_takesFactor_101 rfl (lv_at hl 4 rfl) ?_
        refine mc_vv (As := [.int (3 : Int32), .int (0 : Int32), .int (0 : Int32), .int ((mga σ 14 x3.toNatClampNeg) * v32), .int x1]) (rest := []) X (mM_addsLeaf l G o ρ hap σ (3 : Int32) (0 : Int32) (0 : Int32) ((mga σ 14 x3.toNatClampNeg) * v32) x1 _ hw) (lw_V q2355 q2357 qs68 q_ini2 q2358) hd2_addsLeaf (mm_le hRf rfl) (mm_le hRl rfl) rfl rfl (Nat.le_of_ble_eq_true rfl) dX2_takesFactor_102 hR hS hl.1 (fun σ102 H locs hw hR hS => ?_)
        refine lv_goto (tgt := 216) hx hb dX2_takesFactor_105 (by decide) ?_
        exact hret _ _ _ _ _ hw hR hS dX2_takesFactor_216
    · have hw := hw.2 c_61
      refine lv_aload_n hx hb dX2_takesFactor_64 rfl (lv_at hl 3 rfl) ?_
      refine lv_iconst (v := 2) hx hb dX2_takesFactor_65 (by decide) ?_
      refine lv_iconst (v := 0) hx hb dX2_takesFactor_66 (by decide) ?_
      refine lv_iconst (v := 0) hx hb dX2_takesFactor_67 (by decide) ?_
      refine lv_iload hx hb dX2_takesFactor_68 (lv_at hl 2 rfl) ?_
      refine lv_iload hx hb dX2_takesFactor_70 (lv_at hl 1 rfl) ?_
      refine lv_imul hx hb dX2_takesFactor_72 ?_
      refine lv_iload hx hb dX2_takesFactor_73 (lv_at hl 0 rfl) ?_
      refine lv_imul hx hb dX2_takesFactor_75 ?_
      refine lv_iload_n hx hb dX2_takesFactor_76 rfl (lv_at hl 4 rfl) ?_
      refine mc_vv (As := [.int (2 : Int32), .int (0 : Int32), .int (0 : Int32), .int (((mga σ 13 x3.toNatClampNeg) * (mga σ 14 x3.toNatClampNeg)) * v32), .int x1]) (rest := []) X (mM_addsLeaf l G o ρ hap σ (2 : Int32) (0 : Int32) (0 : Int32) (((mga σ 13 x3.toNatClampNeg) * (mga σ 14 x3.toNatClampNeg)) * v32) x1 _ hw) (lw_V q2355 q2357 qs68 q_ini2 q2358) hd2_addsLeaf (mm_le hRf rfl) (mm_le hRl rfl) rfl rfl (Nat.le_of_ble_eq_true rfl) dX2_takesFactor_77 hR hS hl.1 (fun σ77 H locs hw hR hS => ?_)
      refine lv_goto (tgt := 216) hx hb dX2_takesFactor_80 (by decide) ?_
      exact hret _ _ _ _ _ hw hR hS dX2_takesFactor_216
  · have hw := hw.1 c_37
    refine lv_aload_n hx hb dX2_takesFactor_40 rfl (lv_at hl 3 rfl) ?_
    refine lv_iconst (v := 0) hx hb dX2_takesFactor_41 (by decide) ?_
    refine lv_iload hx hb dX2_takesFactor_42 (lv_at hl 0 rfl) ?_
    refine lv_iload hx hb dX2_takesFactor_44 (lv_at hl 2 rfl) ?_
    refine lv_iload hx hb dX2_takesFactor_46 (lv_at hl 0 rfl) ?_
    refine lv_iload hx hb dX2_takesFactor_48 (lv_at hl 2 rfl) ?_
    refine lv_imul hx hb dX2_takesFactor_50 ?_
    refine lv_iload_n hx hb dX2_takesFactor_51 rfl (lv_at hl 4 rfl) ?_
    refine mc_vv (As := [.int (0 : Int32), .int v32, .int (mga σ 13 x3.toNatClampNeg), .int (v32 * (mga σ 13 x3.toNatClampNeg)), .int x1]) (rest := []) X (mM_addsLeaf l G o ρ hap σ (0 : Int32) v32 (mga σ 13 x3.toNatClampNeg) (v32 * (mga σ 13 x3.toNatClampNeg)) x1 _ hw) (lw_V q2355 q2357 qs68 q_ini2 q2358) hd2_addsLeaf (mm_le hRf rfl) (mm_le hRl rfl) rfl rfl (Nat.le_of_ble_eq_true rfl) dX2_takesFactor_52 hR hS hl.1 (fun σ52 H locs hw hR hS => ?_)
    refine lv_goto (tgt := 216) hx hb dX2_takesFactor_55 (by decide) ?_
    exact hret _ _ _ _ _ hw hR hS dX2_takesFactor_216
def wM_steps_j118 (rec76 : mS → Int32 → Prop) (Q : mS → Prop) (σ : mS) (x1 : Int32) (x2 : Int32) (x3 : Int32) (s0 : Int32) (s1 : Int32) : Prop :=
  vp_in s1 9 ∧ (∀ σ118 : mS, σ118 = mpa σ 10 s1.toNatClampNeg s0 → rec76 σ118 (x3 + 1))
def wM_steps_l76  (Q : mS → Prop)  (x1 : Int32) (x2 : Int32) : Nat → mS → Int32 → Prop
  | 0, _, _ => False
  | n + 1, σ, x3 => (((9 : Int32) ≤ x3 → wM_takesApart σ  (fun σ126 => vp_in (mgi σ126 61) 8 ∧ ((((mga σ126 60 (mgi σ126 61).toNatClampNeg) = (mgi σ126 12) → vp_in (mgi σ126 61) 8 ∧ (vp_in (mgi σ126 61) 8 ∧ (∀ σ159 : mS, σ159 = mpa σ126 59 (mgi σ126 61).toNatClampNeg ((mga σ126 59 (mgi σ126 61).toNatClampNeg) + 1) → vp_in (mgi σ159 61) 8 ∧ (∀ σ169 : mS, σ169 = mpa σ159 60 (mgi σ159 61).toNatClampNeg 0 → ∀ y179_0 : Int32, y179_0 = (if (mgi σ169 61) = 0 then 1 else 0) → ∀ σ188 : mS, σ188 = mpi σ169 61 ((mgi σ169 61) - y179_0) → Q σ188)))) ∧ (¬ (mga σ126 60 (mgi σ126 61).toNatClampNeg) = (mgi σ126 12) → vp_in (mgi σ126 61) 8 ∧ (vp_in (mgi σ126 61) 8 ∧ (∀ σ204 : mS, σ204 = mpa σ126 60 (mgi σ126 61).toNatClampNeg ((mga σ126 60 (mgi σ126 61).toNatClampNeg) + 1) → (((mgi σ204 61) = 0 → wM_takesFirst σ204 (mga σ126 60 (mgi σ126 61).toNatClampNeg) (fun σ214 => Q σ214)) ∧ (¬ (mgi σ204 61) = 0 → wM_takesKnot σ204 x1 (fun σ222 => wM_takesFactor σ222 x1 x2 (mga σ126 60 (mgi σ126 61).toNatClampNeg) (fun σ229 => Q σ229))))))))))) ∧ (¬ (9 : Int32) ≤ x3 → (((mgi σ 61) ≤ 0 → vp_in x3 9 ∧ (wM_residue σ (mgl σ 19 x3.toNatClampNeg) (fun r115 => (wM_steps_j118 (fun z z3 => wM_steps_l76  Q  x1 x2 n z z3) Q σ x1 x2 x3 r115 x3)))) ∧ (¬ (mgi σ 61) ≤ 0 → vp_in ((9 * x2) + x3) 576 ∧ ((wM_steps_j118 (fun z z3 => wM_steps_l76  Q  x1 x2 n z z3) Q σ x1 x2 x3 (mga σ 43 ((9 * x2) + x3).toNatClampNeg) x3))))))
def wM_steps_j46  (Q : mS → Prop) (σ : mS) (x1 : Int32)  : Prop :=
  (((mgi σ 61) ≤ 0 → True) ∧ (¬ (mgi σ 61) ≤ 0 → (vp_in x1 40 ∧ (vp_in (mgi σ 61) 8 ∧ True)))) ∧ (∀ y50_0 : Int32, y50_0 = (if (mgi σ 61) ≤ 0 then 0 else ((mga σ 27 x1.toNatClampNeg) + (mga σ 59 (mgi σ 61).toNatClampNeg))) → (∃ k76 : Nat, wM_steps_l76  Q  x1 y50_0 k76 σ (0 : Int32)))
def wM_steps (σ : mS)  (Q : mS → Prop) : Prop :=
  vp_in (mgi σ 61) 8 ∧ ((((mgi σ 61) ≤ 0 → (wM_steps_j46  Q σ (mga σ 58 (mgi σ 61).toNatClampNeg))) ∧ (¬ (mgi σ 61) ≤ 0 → vp_in (mgi σ 61) 8 ∧ (vp_in (mga σ 58 (mgi σ 61).toNatClampNeg) 40 ∧ ((((mga σ 59 (mgi σ 61).toNatClampNeg) = (mga σ 28 (mga σ 58 (mgi σ 61).toNatClampNeg).toNatClampNeg) → ∀ σ42 : mS, σ42 = mpi σ 61 ((mgi σ 61) - 1) → Q σ42) ∧ (¬ (mga σ 59 (mgi σ 61).toNatClampNeg) = (mga σ 28 (mga σ 58 (mgi σ 61).toNatClampNeg).toNatClampNeg) → (wM_steps_j46  Q σ (mga σ 58 (mgi σ 61).toNatClampNeg)))))))))
set_option maxHeartbeats 4000000 in
theorem mM_steps (l : Launch) (G : mG) (o : Nat) (ρ : Nat → Nat) (hap : mAp o ρ) (σ : mS)  (Q : mS → Prop) (hw : wM_steps σ  Q) : mMetV l G yX2_steps (ws_ yX2_steps cX2_steps 4 none) 9 236 o ρ [.ref o] σ Q := by
  refine mo_V plain2 rfl (Nat.le_of_ble_eq_true rfl) ?_
  intro p e s R m args below meth c QQ X hRf hRl hret
  obtain ⟨hx, hb, hml, hown, hts, hE⟩ := id X
  have hL76 : ∀ (x1 : Int32) (x2 : Int32) (n76 : Nat) (σ : mS) (x3 : Int32), wM_steps_l76  Q  x1 x2 n76 σ x3 → ∀ (H : Heap) (locs : List Loc) (ls : Array Slot), mR G o ρ σ H → va_S (mA o ρ) s.heap H locs → lv_has ls 4 [(0, .ref o), (1, .int x1), (2, .int x2), (3, .int x3)] → W p l e R s m args below meth c H locs 0 0 QQ (F0 m 76 ls []) := by
    intro x1 x2 n76
    induction n76 with
    | zero => intro σ x3 hw; exact hw.elim
    | succ n76 ih76 =>
      have hJ118 : ∀ (σ : mS) (x3 : Int32) (s0 : Int32) (s1 : Int32), wM_steps_j118 (wM_steps_l76  Q  x1 x2 n76) Q σ x1 x2 x3 s0 s1 → ∀ (H : Heap) (locs : List Loc) (ls : Array Slot), mR G o ρ σ H → va_S (mA o ρ) s.heap H locs → lv_has ls 4 [(0, .ref o), (1, .int x1), (2, .int x2), (3, .int x3)] → W p l e R s m args below meth c H locs 0 0 QQ (F0 m 118 ls [.int s0, .int s1, .ref (ρ 10)]) := by
        intro σ x3 s0 s1 hw H locs ls hR hS hl
        unfold wM_steps_j118 at hw
        obtain ⟨hi_118, hw⟩ := hw
        refine mst_10 hx hb hE hap hR hS hi_118 dX2_steps_118 (fun σ118 e_σ118 H locs hR hS => ?_)
        have hw := hw σ118 e_σ118
        clear e_σ118
        refine lv_iinc (k := 3) (lv' := [(3, .int (x3 + 1)), (0, .ref o), (1, .int x1), (2, .int x2)]) hx hb dX2_steps_119 hl rfl (congrArg (x3 + ·) (by decide : Int32.ofInt 1 = 1)) (by decide) rfl (fun ls hl => ?_)
        refine lv_goto (tgt := 76) hx hb dX2_steps_122 (by decide) ?_
        exact ih76 σ118 (x3 + 1) hw H locs ls hR hS (lv_sub hl [1, 2, 3, 0] rfl)
      intro σ x3 hw H locs ls hR hS hl
      rw [wM_steps_l76] at hw
      refine lv_iload_n hx hb dX2_steps_76 rfl (lv_at hl 3 rfl) ?_
      refine lv_bipush (v := 9) hx hb dX2_steps_77 (by decide) ?_
      refine lv_icmp_ge (tgt := 125) hx hb dX2_steps_79 (by decide) (fun c_79 => ?_) (fun c_79 => ?_)
      · have hw := hw.1 c_79
        refine lv_aload_n hx hb dX2_steps_125 rfl (lv_at hl 0 rfl) ?_
        refine mc_vv (As := []) (rest := []) X (mM_takesApart l G o ρ hap σ  _ hw) (lw_V q2323 q2325 qs61 q_ini2 q2326) hd2_takesApart (mm_le hRf rfl) (mm_le hRl rfl) rfl rfl (Nat.le_of_ble_eq_true rfl) dX2_steps_126 hR hS hl.1 (fun σ126 H locs hw hR hS => ?_)
        refine lv_aload_n hx hb dX2_steps_129 rfl (lv_at hl 0 rfl) ?_
        refine mg_60 hx hb hts hown hE hR dX2_steps_130 ?_
        refine lv_aload_n hx hb dX2_steps_133 rfl (lv_at hl 0 rfl) ?_
        refine mg_61 hx hb hts hown hE hR dX2_steps_134 ?_
        obtain ⟨hi_137, hw⟩ := hw
        refine ma_60 hx hb hE hR hi_137 dX2_steps_137 ?_
        refine lv_istore_n (lv' := [(3, .int (mga σ126 60 (mgi σ126 61).toNatClampNeg)), (0, .ref o), (1, .int x1), (2, .int x2)]) hx hb dX2_steps_138 rfl hl (by decide) rfl (fun ls hl => ?_)
        refine lv_iload_n hx hb dX2_steps_139 rfl (lv_at hl 0 rfl) ?_
        refine lv_aload_n hx hb dX2_steps_140 rfl (lv_at hl 1 rfl) ?_
        refine mg_12 hx hb hts hown hE hR dX2_steps_141 ?_
        refine lv_icmp_ne (tgt := 192) hx hb dX2_steps_144 (by decide) (fun c_144 => ?_) (fun c_144 => ?_)
        · have hw := hw.2 c_144
          refine lv_aload_n hx hb dX2_steps_192 rfl (lv_at hl 1 rfl) ?_
          refine mg_60 hx hb hts hown hE hR dX2_steps_193 ?_
          refine lv_aload_n hx hb dX2_steps_196 rfl (lv_at hl 1 rfl) ?_
          refine mg_61 hx hb hts hown hE hR dX2_steps_197 ?_
          refine lv_dup2_11 hx hb dX2_steps_200 rfl rfl ?_
          obtain ⟨hi_201, hw⟩ := hw
          refine ma_60 hx hb hE hR hi_201 dX2_steps_201 ?_
          refine lv_iconst (v := 1) hx hb dX2_steps_202 (by decide) ?_
          refine lv_iadd hx hb dX2_steps_203 ?_
          obtain ⟨hi_204, hw⟩ := hw
          refine mst_60 hx hb hE hap hR hS hi_204 dX2_steps_204 (fun σ204 e_σ204 H locs hR hS => ?_)
          have hw := hw σ204 e_σ204
          clear e_σ204
          refine lv_aload_n hx hb dX2_steps_205 rfl (lv_at hl 1 rfl) ?_
          refine mg_61 hx hb hts hown hE hR dX2_steps_206 ?_
          refine lv_if_ne (tgt := 220) hx hb dX2_steps_209 (by decide) (fun c_209 => ?_) (fun c_209 => ?_)
          · have hw := hw.2 c_209
            refine lv_aload_n hx hb dX2_steps_220 rfl (lv_at hl 1 rfl) ?_
            refine lv_iload_n hx hb dX2_steps_221 rfl (lv_at hl 2 rfl) ?_
            refine mc_vv (As := [.int x1]) (rest := []) X (mM_takesKnot l G o ρ hap σ204 x1 _ hw) (lw_V q2375 q2377 qs73 q_ini2 q2378) hd2_takesKnot (mm_le hRf rfl) (mm_le hRl rfl) rfl rfl (Nat.le_of_ble_eq_true rfl) dX2_steps_222 hR hS hl.1 (fun σ222 H locs hw hR hS => ?_)
            refine lv_aload_n hx hb dX2_steps_225 rfl (lv_at hl 1 rfl) ?_
            refine lv_iload_n hx hb dX2_steps_226 rfl (lv_at hl 2 rfl) ?_
            refine lv_iload_n hx hb dX2_steps_227 rfl (lv_at hl 3 rfl) ?_
            refine lv_iload_n hx hb dX2_steps_228 rfl (lv_at hl 0 rfl) ?_
            refine mc_vv (As := [.int x1, .int x2, .int (mga σ126 60 (mgi σ126 61).toNatClampNeg)]) (rest := []) X (mM_takesFactor l G o ρ hap σ222 x1 x2 (mga σ126 60 (mgi σ126 61).toNatClampNeg) _ hw) (lw_V q2434 q2436 qs87 q_ini2 q2437) hd2_takesFactor (mm_le hRf rfl) (mm_le hRl rfl) rfl rfl (Nat.le_of_ble_eq_true rfl) dX2_steps_229 hR hS hl.1 (fun σ229 H locs hw hR hS => ?_)
            exact hret _ _ _ _ _ hw hR hS dX2_steps_232
          · have hw := hw.1 c_209
            refine lv_aload_n hx hb dX2_steps_212 rfl (lv_at hl 1 rfl) ?_
            refine lv_iload_n hx hb dX2_steps_213 rfl (lv_at hl 0 rfl) ?_
            refine mc_vv (As := [.int (mga σ126 60 (mgi σ126 61).toNatClampNeg)]) (rest := []) X (mM_takesFirst l G o ρ hap σ204 (mga σ126 60 (mgi σ126 61).toNatClampNeg) _ hw) (lw_V q2351 q2353 qs67 q_ini2 q2354) hd2_takesFirst (mm_le hRf rfl) (mm_le hRl rfl) rfl rfl (Nat.le_of_ble_eq_true rfl) dX2_steps_214 hR hS hl.1 (fun σ214 H locs hw hR hS => ?_)
            refine lv_goto (tgt := 232) hx hb dX2_steps_217 (by decide) ?_
            exact hret _ _ _ _ _ hw hR hS dX2_steps_232
        · have hw := hw.1 c_144
          refine lv_aload_n hx hb dX2_steps_147 rfl (lv_at hl 1 rfl) ?_
          refine mg_59 hx hb hts hown hE hR dX2_steps_148 ?_
          refine lv_aload_n hx hb dX2_steps_151 rfl (lv_at hl 1 rfl) ?_
          refine mg_61 hx hb hts hown hE hR dX2_steps_152 ?_
          refine lv_dup2_11 hx hb dX2_steps_155 rfl rfl ?_
          obtain ⟨hi_156, hw⟩ := hw
          refine ma_59 hx hb hE hR hi_156 dX2_steps_156 ?_
          refine lv_iconst (v := 1) hx hb dX2_steps_157 (by decide) ?_
          refine lv_iadd hx hb dX2_steps_158 ?_
          obtain ⟨hi_159, hw⟩ := hw
          refine mst_59 hx hb hE hap hR hS hi_159 dX2_steps_159 (fun σ159 e_σ159 H locs hR hS => ?_)
          have hw := hw σ159 e_σ159
          clear e_σ159
          refine lv_aload_n hx hb dX2_steps_160 rfl (lv_at hl 1 rfl) ?_
          refine mg_60 hx hb hts hown hE hR dX2_steps_161 ?_
          refine lv_aload_n hx hb dX2_steps_164 rfl (lv_at hl 1 rfl) ?_
          refine mg_61 hx hb hts hown hE hR dX2_steps_165 ?_
          refine lv_iconst (v := 0) hx hb dX2_steps_168 (by decide) ?_
          obtain ⟨hi_169, hw⟩ := hw
          refine mst_60 hx hb hE hap hR hS hi_169 dX2_steps_169 (fun σ169 e_σ169 H locs hR hS => ?_)
          have hw := hw σ169 e_σ169
          clear e_σ169
          refine lv_aload_n hx hb dX2_steps_170 rfl (lv_at hl 1 rfl) ?_
          refine lv_dup hx hb dX2_steps_171 rfl ?_
          refine mg_61 hx hb hts hown hE hR dX2_steps_172 ?_
          refine lv_aload_n hx hb dX2_steps_175 rfl (lv_at hl 1 rfl) ?_
          refine mg_61 hx hb hts hown hE hR dX2_steps_176 ?_
          have hK179 : ∀ (y179_0 : Int32), y179_0 = (if (mgi σ169 61) = 0 then 1 else 0) → ∀ (ls : Array Slot), lv_has ls 4 [] → W p l e R s m args below meth c H locs 0 0 QQ (F0 m 187 ls [.int y179_0, .int (mgi σ169 61), .ref o]) := by
            intro y179_0 e_y179_0 ls hl
            have hw := hw y179_0 e_y179_0
            refine lv_isub hx hb dX2_steps_187 ?_
            refine mp_61 hx hb hts hown hE hap hR hS dX2_steps_188 (fun σ188 e_σ188 H locs hR hS => ?_)
            have hw := hw σ188 e_σ188
            clear e_σ188
            exact hret _ _ _ _ _ hw hR hS dX2_steps_191
          refine lv_if_ne (tgt := 186) hx hb dX2_steps_179 (by decide) (fun c_179 => ?_) (fun c_179 => ?_)
          · refine lv_iconst (v := 0) hx hb dX2_steps_186 (by decide) ?_
            exact hK179 _ (if_neg c_179).symm ls (lv_sub hl [] rfl)
          · refine lv_iconst (v := 1) hx hb dX2_steps_182 (by decide) ?_
            refine lv_goto (tgt := 187) hx hb dX2_steps_183 (by decide) ?_
            exact hK179 _ (if_pos c_179).symm ls (lv_sub hl [] rfl)
      · have hw := hw.2 c_79
        refine lv_aload_n hx hb dX2_steps_82 rfl (lv_at hl 0 rfl) ?_
        refine mg_10 hx hb hts hown hE hR dX2_steps_83 ?_
        refine lv_iload_n hx hb dX2_steps_86 rfl (lv_at hl 3 rfl) ?_
        refine lv_aload_n hx hb dX2_steps_87 rfl (lv_at hl 0 rfl) ?_
        refine mg_61 hx hb hts hown hE hR dX2_steps_88 ?_
        refine lv_if_le (tgt := 108) hx hb dX2_steps_91 (by decide) (fun c_91 => ?_) (fun c_91 => ?_)
        · have hw := hw.1 c_91
          refine lv_aload_n hx hb dX2_steps_108 rfl (lv_at hl 0 rfl) ?_
          refine lv_aload_n hx hb dX2_steps_109 rfl (lv_at hl 0 rfl) ?_
          refine mg_19 hx hb hts hown hE hR dX2_steps_110 ?_
          refine lv_iload_n hx hb dX2_steps_113 rfl (lv_at hl 3 rfl) ?_
          obtain ⟨hi_114, hw⟩ := hw
          refine ma_19 hx hb hE hR hi_114 dX2_steps_114 ?_
          refine mc_vir (As := [.long (mgl σ 19 x3.toNatClampNeg)]) (rest := [.int x3, .ref (ρ 10)]) X (mM_residue l G o ρ hap σ (mgl σ 19 x3.toNatClampNeg) _ hw) (lw_V q2315 q2317 qs59 q_ini2 q2318) hd2_residue (mm_le hRf rfl) (mm_le hRl rfl) rfl rfl (Nat.le_of_ble_eq_true rfl) dX2_steps_115 hR hS hl.1 (fun r115 H locs hw hR hS => ?_)
          exact hJ118 σ x3 r115 x3 hw H locs ls hR hS (lv_sub hl [0, 1, 2, 3] rfl)
        · have hw := hw.2 c_91
          refine lv_aload_n hx hb dX2_steps_94 rfl (lv_at hl 0 rfl) ?_
          refine mg_43 hx hb hts hown hE hR dX2_steps_95 ?_
          refine lv_bipush (v := 9) hx hb dX2_steps_98 (by decide) ?_
          refine lv_iload_n hx hb dX2_steps_100 rfl (lv_at hl 2 rfl) ?_
          refine lv_imul hx hb dX2_steps_101 ?_
          refine lv_iload_n hx hb dX2_steps_102 rfl (lv_at hl 3 rfl) ?_
          refine lv_iadd hx hb dX2_steps_103 ?_
          obtain ⟨hi_104, hw⟩ := hw
          refine ma_43 hx hb hE hR hi_104 dX2_steps_104 ?_
          refine lv_goto (tgt := 118) hx hb dX2_steps_105 (by decide) ?_
          exact hJ118 σ x3 (mga σ 43 ((9 * x2) + x3).toNatClampNeg) x3 hw H locs ls hR hS (lv_sub hl [0, 1, 2, 3] rfl)
  have hJ46 : ∀ (σ : mS) (x1 : Int32), wM_steps_j46  Q σ x1 → ∀ (H : Heap) (locs : List Loc) (ls : Array Slot), mR G o ρ σ H → va_S (mA o ρ) s.heap H locs → lv_has ls 4 [(0, .ref o), (1, .int x1)] → W p l e R s m args below meth c H locs 0 0 QQ (F0 m 46 ls []) := by
    intro σ x1 hw H locs ls hR hS hl
    unfold wM_steps_j46 at hw
    refine lv_aload_n hx hb dX2_steps_46 rfl (lv_at hl 0 rfl) ?_
    refine mg_61 hx hb hts hown hE hR dX2_steps_47 ?_
    obtain ⟨hg, hw⟩ := hw
    have hK50 : ∀ (y50_0 : Int32), y50_0 = (if (mgi σ 61) ≤ 0 then 0 else ((mga σ 27 x1.toNatClampNeg) + (mga σ 59 (mgi σ 61).toNatClampNeg))) → ∀ (ls : Array Slot), lv_has ls 4 [(0, .ref o), (1, .int x1)] → W p l e R s m args below meth c H locs 0 0 QQ (F0 m 73 ls [.int y50_0]) := by
      intro y50_0 e_y50_0 ls hl
      have hw := hw y50_0 e_y50_0
      refine lv_istore_n (lv' := [(2, .int y50_0), (0, .ref o), (1, .int x1)]) hx hb dX2_steps_73 rfl hl (by decide) rfl (fun ls hl => ?_)
      refine lv_iconst (v := 0) hx hb dX2_steps_74 (by decide) ?_
      refine lv_istore_n (lv' := [(3, .int 0), (2, .int y50_0), (0, .ref o), (1, .int x1)]) hx hb dX2_steps_75 rfl hl (by decide) rfl (fun ls hl => ?_)
      obtain ⟨n76, hw⟩ := hw
      exact hL76 x1 y50_0 n76 σ (0 : Int32) hw H locs ls hR hS (lv_sub hl [2, 3, 1, 0] rfl)
    refine lv_if_le (tgt := 72) hx hb dX2_steps_50 (by decide) (fun c_50 => ?_) (fun c_50 => ?_)
    · have hg := hg.1 c_50
      refine lv_iconst (v := 0) hx hb dX2_steps_72 (by decide) ?_
      exact hK50 _ (if_pos c_50).symm ls (lv_sub hl [0, 1] rfl)
    · have hg := hg.2 c_50
      refine lv_aload_n hx hb dX2_steps_53 rfl (lv_at hl 0 rfl) ?_
      refine mg_27 hx hb hts hown hE hR dX2_steps_54 ?_
      refine lv_iload_n hx hb dX2_steps_57 rfl (lv_at hl 1 rfl) ?_
      obtain ⟨hi_58, hg⟩ := hg
      refine ma_27 hx hb hE hR hi_58 dX2_steps_58 ?_
      refine lv_aload_n hx hb dX2_steps_59 rfl (lv_at hl 0 rfl) ?_
      refine mg_59 hx hb hts hown hE hR dX2_steps_60 ?_
      refine lv_aload_n hx hb dX2_steps_63 rfl (lv_at hl 0 rfl) ?_
      refine mg_61 hx hb hts hown hE hR dX2_steps_64 ?_
      obtain ⟨hi_67, hg⟩ := hg
      refine ma_59 hx hb hE hR hi_67 dX2_steps_67 ?_
      refine lv_iadd hx hb dX2_steps_68 ?_
      refine lv_goto (tgt := 73) hx hb dX2_steps_69 (by decide) ?_
      exact hK50 _ (if_neg c_50).symm ls (lv_sub hl [0, 1] rfl)
  intro H ls hR hS hl
  have hl : lv_has ls 4 [(0, .ref o)] := hl
  generalize ([] : List Loc) = locs at hS ⊢
  unfold wM_steps at hw
  refine lv_aload_n hx hb dX2_steps_0 rfl (lv_at hl 0 rfl) ?_
  refine mg_58 hx hb hts hown hE hR dX2_steps_1 ?_
  refine lv_aload_n hx hb dX2_steps_4 rfl (lv_at hl 0 rfl) ?_
  refine mg_61 hx hb hts hown hE hR dX2_steps_5 ?_
  obtain ⟨hi_8, hw⟩ := hw
  refine ma_58 hx hb hE hR hi_8 dX2_steps_8 ?_
  refine lv_istore_n (lv' := [(1, .int (mga σ 58 (mgi σ 61).toNatClampNeg)), (0, .ref o)]) hx hb dX2_steps_9 rfl hl (by decide) rfl (fun ls hl => ?_)
  refine lv_aload_n hx hb dX2_steps_10 rfl (lv_at hl 1 rfl) ?_
  refine mg_61 hx hb hts hown hE hR dX2_steps_11 ?_
  refine lv_if_le (tgt := 46) hx hb dX2_steps_14 (by decide) (fun c_14 => ?_) (fun c_14 => ?_)
  · have hw := hw.1 c_14
    exact hJ46 σ (mga σ 58 (mgi σ 61).toNatClampNeg) hw H locs ls hR hS (lv_sub hl [1, 0] rfl)
  · have hw := hw.2 c_14
    refine lv_aload_n hx hb dX2_steps_17 rfl (lv_at hl 1 rfl) ?_
    refine mg_59 hx hb hts hown hE hR dX2_steps_18 ?_
    refine lv_aload_n hx hb dX2_steps_21 rfl (lv_at hl 1 rfl) ?_
    refine mg_61 hx hb hts hown hE hR dX2_steps_22 ?_
    obtain ⟨hi_25, hw⟩ := hw
    refine ma_59 hx hb hE hR hi_25 dX2_steps_25 ?_
    refine lv_aload_n hx hb dX2_steps_26 rfl (lv_at hl 1 rfl) ?_
    refine mg_28 hx hb hts hown hE hR dX2_steps_27 ?_
    refine lv_iload_n hx hb dX2_steps_30 rfl (lv_at hl 0 rfl) ?_
    obtain ⟨hi_31, hw⟩ := hw
    refine ma_28 hx hb hE hR hi_31 dX2_steps_31 ?_
    refine lv_icmp_ne (tgt := 46) hx hb dX2_steps_32 (by decide) (fun c_32 => ?_) (fun c_32 => ?_)
    · have hw := hw.2 c_32
      exact hJ46 σ (mga σ 58 (mgi σ 61).toNatClampNeg) hw H locs ls hR hS (lv_sub hl [1, 0] rfl)
    · have hw := hw.1 c_32
      refine lv_aload_n hx hb dX2_steps_35 rfl (lv_at hl 1 rfl) ?_
      refine lv_dup hx hb dX2_steps_36 rfl ?_
      refine mg_61 hx hb hts hown hE hR dX2_steps_37 ?_
      refine lv_iconst (v := 1) hx hb dX2_steps_40 (by decide) ?_
      refine lv_isub hx hb dX2_steps_41 ?_
      refine mp_61 hx hb hts hown hE hap hR hS dX2_steps_42 (fun σ42 e_σ42 H locs hR hS => ?_)
      have hw := hw σ42 e_σ42
      clear e_σ42
      exact hret _ _ _ _ _ hw hR hS dX2_steps_45
def wM_spells (σ : mS) (x1 : Int32) (Q : mS → Prop) : Prop :=
  vp_in (mgi σ 63) 160 ∧ (∀ σ9 : mS, σ9 = mpa σ 62 (mgi σ 63).toNatClampNeg x1 → ∀ σ17 : mS, σ17 = mpi σ9 63 ((mgi σ9 63) + 1) → Q σ17)
set_option maxHeartbeats 4000000 in
theorem mM_spells (l : Launch) (G : mG) (o : Nat) (ρ : Nat → Nat) (hap : mAp o ρ) (σ : mS) (x1 : Int32) (Q : mS → Prop) (hw : wM_spells σ x1 Q) : mMetV l G yX2_spells (ws_ yX2_spells cX2_spells 2 none) 0 0 o ρ [.ref o, .int x1] σ Q := by
  refine mo_V plain2 rfl (Nat.le_of_ble_eq_true rfl) ?_
  intro p e s R m args below meth c QQ X hRf hRl hret
  obtain ⟨hx, hb, hml, hown, hts, hE⟩ := id X
  intro H ls hR hS hl
  have hl : lv_has ls 2 [(0, .ref o), (1, .int x1)] := hl
  generalize ([] : List Loc) = locs at hS ⊢
  unfold wM_spells at hw
  refine lv_aload_n hx hb dX2_spells_0 rfl (lv_at hl 0 rfl) ?_
  refine mg_62 hx hb hts hown hE hR dX2_spells_1 ?_
  refine lv_aload_n hx hb dX2_spells_4 rfl (lv_at hl 0 rfl) ?_
  refine mg_63 hx hb hts hown hE hR dX2_spells_5 ?_
  refine lv_iload_n hx hb dX2_spells_8 rfl (lv_at hl 1 rfl) ?_
  obtain ⟨hi_9, hw⟩ := hw
  refine mst_62 hx hb hE hap hR hS hi_9 dX2_spells_9 (fun σ9 e_σ9 H locs hR hS => ?_)
  have hw := hw σ9 e_σ9
  clear e_σ9
  refine lv_aload_n hx hb dX2_spells_10 rfl (lv_at hl 0 rfl) ?_
  refine lv_dup hx hb dX2_spells_11 rfl ?_
  refine mg_63 hx hb hts hown hE hR dX2_spells_12 ?_
  refine lv_iconst (v := 1) hx hb dX2_spells_15 (by decide) ?_
  refine lv_iadd hx hb dX2_spells_16 ?_
  refine mp_63 hx hb hts hown hE hap hR hS dX2_spells_17 (fun σ17 e_σ17 H locs hR hS => ?_)
  have hw := hw σ17 e_σ17
  clear e_σ17
  exact hret _ _ _ _ _ hw hR hS dX2_spells_20
def wM_spellsNumber_j17  (Q : mS → Prop) (σ : mS) (x1 : Int32)  : Prop :=
  wM_spells σ (48 + (x1 - x1 / 10 * 10)) (fun σ25 => Q σ25)
def wM_spellsNumber (σ : mS) (x1 : Int32) (Q : mS → Prop) : Prop :=
  ((x1 ≤ (9 : Int32) → (wM_spellsNumber_j17  Q σ x1)) ∧ (¬ x1 ≤ (9 : Int32) → wM_spells σ (48 + (x1 / 10)) (fun σ14 => (wM_spellsNumber_j17  Q σ14 x1))))
set_option maxHeartbeats 4000000 in
theorem mM_spellsNumber (l : Launch) (G : mG) (o : Nat) (ρ : Nat → Nat) (hap : mAp o ρ) (σ : mS) (x1 : Int32) (Q : mS → Prop) (hw : wM_spellsNumber σ x1 Q) : mMetV l G yX2_spellsNumber (ws_ yX2_spellsNumber cX2_spellsNumber 2 none) 1 21 o ρ [.ref o, .int x1] σ Q := by
  refine mo_V plain2 rfl (Nat.le_of_ble_eq_true rfl) ?_
  intro p e s R m args below meth c QQ X hRf hRl hret
  obtain ⟨hx, hb, hml, hown, hts, hE⟩ := id X
  have hJ17 : ∀ (σ : mS) (x1 : Int32), wM_spellsNumber_j17  Q σ x1 → ∀ (H : Heap) (locs : List Loc) (ls : Array Slot), mR G o ρ σ H → va_S (mA o ρ) s.heap H locs → lv_has ls 2 [(0, .ref o), (1, .int x1)] → W p l e R s m args below meth c H locs 0 0 QQ (F0 m 17 ls []) := by
    intro σ x1 hw H locs ls hR hS hl
    unfold wM_spellsNumber_j17 at hw
    refine lv_aload_n hx hb dX2_spellsNumber_17 rfl (lv_at hl 0 rfl) ?_
    refine lv_bipush (v := 48) hx hb dX2_spellsNumber_18 (by decide) ?_
    refine lv_iload_n hx hb dX2_spellsNumber_20 rfl (lv_at hl 1 rfl) ?_
    refine lv_bipush (v := 10) hx hb dX2_spellsNumber_21 (by decide) ?_
    refine lv_irem hx hb dX2_spellsNumber_23 (by decide) ?_
    refine lv_iadd hx hb dX2_spellsNumber_24 ?_
    refine mc_vv (As := [.int (48 + (x1 - x1 / 10 * 10))]) (rest := []) X (mM_spells l G o ρ hap σ (48 + (x1 - x1 / 10 * 10)) _ hw) (lw_V q2454 q2456 qs92 q_ini2 q2457) hd2_spells (mm_le hRf rfl) (mm_le hRl rfl) rfl rfl (Nat.le_of_ble_eq_true rfl) dX2_spellsNumber_25 hR hS hl.1 (fun σ25 H locs hw hR hS => ?_)
    exact hret _ _ _ _ _ hw hR hS dX2_spellsNumber_28
  intro H ls hR hS hl
  have hl : lv_has ls 2 [(0, .ref o), (1, .int x1)] := hl
  generalize ([] : List Loc) = locs at hS ⊢
  unfold wM_spellsNumber at hw
  refine lv_iload_n hx hb dX2_spellsNumber_0 rfl (lv_at hl 1 rfl) ?_
  refine lv_bipush (v := 9) hx hb dX2_spellsNumber_1 (by decide) ?_
  refine lv_icmp_le (tgt := 17) hx hb dX2_spellsNumber_3 (by decide) (fun c_3 => ?_) (fun c_3 => ?_)
  · have hw := hw.1 c_3
    exact hJ17 σ x1 hw H locs ls hR hS (lv_sub hl [0, 1] rfl)
  · have hw := hw.2 c_3
    refine lv_aload_n hx hb dX2_spellsNumber_6 rfl (lv_at hl 0 rfl) ?_
    refine lv_bipush (v := 48) hx hb dX2_spellsNumber_7 (by decide) ?_
    refine lv_iload_n hx hb dX2_spellsNumber_9 rfl (lv_at hl 1 rfl) ?_
    refine lv_bipush (v := 10) hx hb dX2_spellsNumber_10 (by decide) ?_
    refine lv_idiv hx hb dX2_spellsNumber_12 (by decide) ?_
    refine lv_iadd hx hb dX2_spellsNumber_13 ?_
    refine mc_vv (As := [.int (48 + (x1 / 10))]) (rest := []) X (mM_spells l G o ρ hap σ (48 + (x1 / 10)) _ hw) (lw_V q2454 q2456 qs92 q_ini2 q2457) hd2_spells (mm_le hRf rfl) (mm_le hRl rfl) rfl rfl (Nat.le_of_ble_eq_true rfl) dX2_spellsNumber_14 hR hS hl.1 (fun σ14 H locs hw hR hS => ?_)
    exact hJ17 σ14 x1 hw H locs ls hR hS (lv_sub hl [0, 1] rfl)
def wM_spellsAll_j95 (rec7 : mS → Int32 → Prop) (Q : mS → Prop) (σ : mS) (x1 : Int32) (x2 : Int32)  : Prop :=
  ((x2 = (1 : Int32) → wM_spells σ (33 : Int32) (fun σ103 => rec7 σ103 (x1 + 1))) ∧ (¬ x2 = (1 : Int32) → rec7 σ (x1 + 1)))
def wM_spellsAll_l34 (rec7 : mS → Int32 → Prop) (Q : mS → Prop)  (x1 : Int32) (x2 : Int32) : Nat → mS → Int32 → Prop
  | 0, _, _ => False
  | n + 1, σ, x3 => ((x2 < x3 → ((x2 < (2 : Int32) → vp_in x1 20 ∧ (wM_spellsNumber σ (mga σ 45 x1.toNatClampNeg) (fun σ76 => wM_spells σ76 (46 : Int32) (fun σ82 => vp_in x1 20 ∧ (wM_spellsNumber σ82 (mga σ82 46 x1.toNatClampNeg) (fun σ92 => (wM_spellsAll_j95 rec7 Q σ92 x1 x2))))))) ∧ (¬ x2 < (2 : Int32) → vp_in x1 20 ∧ (wM_spellsNumber σ (mga σ 47 x1.toNatClampNeg) (fun σ63 => (wM_spellsAll_j95 rec7 Q σ63 x1 x2)))))) ∧ (¬ x2 < x3 → wM_spells σ (63 : Int32) (fun σ42 => wM_spellsAll_l34 rec7 Q  x1 x2 n σ42 (x3 + 1))))
def wM_spellsAll_j25 (rec7 : mS → Int32 → Prop) (Q : mS → Prop) (σ : mS) (x1 : Int32)  : Prop :=
  vp_in x1 20 ∧ ((∃ k34 : Nat, wM_spellsAll_l34 rec7 Q  x1 (mga σ 44 x1.toNatClampNeg) k34 σ (2 : Int32)))
def wM_spellsAll_l7  (Q : mS → Prop)   : Nat → mS → Int32 → Prop
  | 0, _, _ => False
  | n + 1, σ, x1 => (((mgi σ 23) ≤ x1 → Q σ) ∧ (¬ (mgi σ 23) ≤ x1 → ((x1 ≤ 0 → (wM_spellsAll_j25 (fun z z1 => wM_spellsAll_l7  Q   n z z1) Q σ x1)) ∧ (¬ x1 ≤ 0 → wM_spells σ (43 : Int32) (fun σ22 => (wM_spellsAll_j25 (fun z z1 => wM_spellsAll_l7  Q   n z z1) Q σ22 x1))))))
def wM_spellsAll (σ : mS)  (Q : mS → Prop) : Prop :=
  ∀ σ2 : mS, σ2 = mpi σ 63 0 → (∃ k7 : Nat, wM_spellsAll_l7  Q   k7 σ2 (0 : Int32))
set_option maxHeartbeats 4000000 in
theorem mM_spellsAll (l : Launch) (G : mG) (o : Nat) (ρ : Nat → Nat) (hap : mAp o ρ) (σ : mS)  (Q : mS → Prop) (hw : wM_spellsAll σ  Q) : mMetV l G yX2_spellsAll (ws_ yX2_spellsAll cX2_spellsAll 4 none) 2 42 o ρ [.ref o] σ Q := by
  refine mo_V plain2 rfl (Nat.le_of_ble_eq_true rfl) ?_
  intro p e s R m args below meth c QQ X hRf hRl hret
  obtain ⟨hx, hb, hml, hown, hts, hE⟩ := id X
  have hL7 : ∀ (n7 : Nat) (σ : mS) (x1 : Int32), wM_spellsAll_l7  Q   n7 σ x1 → ∀ (H : Heap) (locs : List Loc) (ls : Array Slot), mR G o ρ σ H → va_S (mA o ρ) s.heap H locs → lv_has ls 4 [(0, .ref o), (1, .int x1)] → W p l e R s m args below meth c H locs 0 0 QQ (F0 m 7 ls []) := by
    intro  n7
    induction n7 with
    | zero => intro σ x1 hw; exact hw.elim
    | succ n7 ih7 =>
      have hJ95 : ∀ (σ : mS) (x1 : Int32) (x2 : Int32), wM_spellsAll_j95 (wM_spellsAll_l7  Q   n7) Q σ x1 x2 → ∀ (H : Heap) (locs : List Loc) (ls : Array Slot), mR G o ρ σ H → va_S (mA o ρ) s.heap H locs → lv_has ls 4 [(0, .ref o), (1, .int x1), (2, .int x2)] → W p l e R s m args below meth c H locs 0 0 QQ (F0 m 95 ls []) := by
        intro σ x1 x2 hw H locs ls hR hS hl
        unfold wM_spellsAll_j95 at hw
        refine lv_iload_n hx hb dX2_spellsAll_95 rfl (lv_at hl 2 rfl) ?_
        refine lv_iconst (v := 1) hx hb dX2_spellsAll_96 (by decide) ?_
        refine lv_icmp_ne (tgt := 106) hx hb dX2_spellsAll_97 (by decide) (fun c_97 => ?_) (fun c_97 => ?_)
        · have hw := hw.2 c_97
          refine lv_iinc (k := 1) (lv' := [(1, .int (x1 + 1)), (0, .ref o), (2, .int x2)]) hx hb dX2_spellsAll_106 hl rfl (congrArg (x1 + ·) (by decide : Int32.ofInt 1 = 1)) (by decide) rfl (fun ls hl => ?_)
          refine lv_goto (tgt := 7) hx hb dX2_spellsAll_109 (by decide) ?_
          exact ih7 σ (x1 + 1) hw H locs ls hR hS (lv_sub hl [1, 0] rfl)
        · have hw := hw.1 c_97
          refine lv_aload_n hx hb dX2_spellsAll_100 rfl (lv_at hl 0 rfl) ?_
          refine lv_bipush (v := 33) hx hb dX2_spellsAll_101 (by decide) ?_
          refine mc_vv (As := [.int (33 : Int32)]) (rest := []) X (mM_spells l G o ρ hap σ (33 : Int32) _ hw) (lw_V q2454 q2456 qs92 q_ini2 q2457) hd2_spells (mm_le hRf rfl) (mm_le hRl rfl) rfl rfl (Nat.le_of_ble_eq_true rfl) dX2_spellsAll_103 hR hS hl.1 (fun σ103 H locs hw hR hS => ?_)
          refine lv_iinc (k := 1) (lv' := [(1, .int (x1 + 1)), (0, .ref o), (2, .int x2)]) hx hb dX2_spellsAll_106 hl rfl (congrArg (x1 + ·) (by decide : Int32.ofInt 1 = 1)) (by decide) rfl (fun ls hl => ?_)
          refine lv_goto (tgt := 7) hx hb dX2_spellsAll_109 (by decide) ?_
          exact ih7 σ103 (x1 + 1) hw H locs ls hR hS (lv_sub hl [1, 0] rfl)
      have hL34 : ∀ (x1 : Int32) (x2 : Int32) (n34 : Nat) (σ : mS) (x3 : Int32), wM_spellsAll_l34 (wM_spellsAll_l7  Q   n7) Q  x1 x2 n34 σ x3 → ∀ (H : Heap) (locs : List Loc) (ls : Array Slot), mR G o ρ σ H → va_S (mA o ρ) s.heap H locs → lv_has ls 4 [(0, .ref o), (1, .int x1), (2, .int x2), (3, .int x3)] → W p l e R s m args below meth c H locs 0 0 QQ (F0 m 34 ls []) := by
        intro x1 x2 n34
        induction n34 with
        | zero => intro σ x3 hw; exact hw.elim
        | succ n34 ih34 =>
          intro σ x3 hw H locs ls hR hS hl
          rw [wM_spellsAll_l34] at hw
          refine lv_iload_n hx hb dX2_spellsAll_34 rfl (lv_at hl 3 rfl) ?_
          refine lv_iload_n hx hb dX2_spellsAll_35 rfl (lv_at hl 2 rfl) ?_
          refine lv_icmp_gt (tgt := 51) hx hb dX2_spellsAll_36 (by decide) (fun c_36 => ?_) (fun c_36 => ?_)
          · have hw := hw.1 c_36
            refine lv_iload_n hx hb dX2_spellsAll_51 rfl (lv_at hl 2 rfl) ?_
            refine lv_iconst (v := 2) hx hb dX2_spellsAll_52 (by decide) ?_
            refine lv_icmp_lt (tgt := 69) hx hb dX2_spellsAll_53 (by decide) (fun c_53 => ?_) (fun c_53 => ?_)
            · have hw := hw.1 c_53
              refine lv_aload_n hx hb dX2_spellsAll_69 rfl (lv_at hl 0 rfl) ?_
              refine lv_aload_n hx hb dX2_spellsAll_70 rfl (lv_at hl 0 rfl) ?_
              refine mg_45 hx hb hts hown hE hR dX2_spellsAll_71 ?_
              refine lv_iload_n hx hb dX2_spellsAll_74 rfl (lv_at hl 1 rfl) ?_
              obtain ⟨hi_75, hw⟩ := hw
              refine ma_45 hx hb hE hR hi_75 dX2_spellsAll_75 ?_
              refine mc_vv (As := [.int (mga σ 45 x1.toNatClampNeg)]) (rest := []) X (mM_spellsNumber l G o ρ hap σ (mga σ 45 x1.toNatClampNeg) _ hw) (lw_V q2458 q2460 qs93 q_ini2 q2461) hd2_spellsNumber (mm_le hRf rfl) (mm_le hRl rfl) rfl rfl (Nat.le_of_ble_eq_true rfl) dX2_spellsAll_76 hR hS hl.1 (fun σ76 H locs hw hR hS => ?_)
              refine lv_aload_n hx hb dX2_spellsAll_79 rfl (lv_at hl 0 rfl) ?_
              refine lv_bipush (v := 46) hx hb dX2_spellsAll_80 (by decide) ?_
              refine mc_vv (As := [.int (46 : Int32)]) (rest := []) X (mM_spells l G o ρ hap σ76 (46 : Int32) _ hw) (lw_V q2454 q2456 qs92 q_ini2 q2457) hd2_spells (mm_le hRf rfl) (mm_le hRl rfl) rfl rfl (Nat.le_of_ble_eq_true rfl) dX2_spellsAll_82 hR hS hl.1 (fun σ82 H locs hw hR hS => ?_)
              refine lv_aload_n hx hb dX2_spellsAll_85 rfl (lv_at hl 0 rfl) ?_
              refine lv_aload_n hx hb dX2_spellsAll_86 rfl (lv_at hl 0 rfl) ?_
              refine mg_46 hx hb hts hown hE hR dX2_spellsAll_87 ?_
              refine lv_iload_n hx hb dX2_spellsAll_90 rfl (lv_at hl 1 rfl) ?_
              obtain ⟨hi_91, hw⟩ := hw
              refine ma_46 hx hb hE hR hi_91 dX2_spellsAll_91 ?_
              refine mc_vv (As := [.int (mga σ82 46 x1.toNatClampNeg)]) (rest := []) X (mM_spellsNumber l G o ρ hap σ82 (mga σ82 46 x1.toNatClampNeg) _ hw) (lw_V q2458 q2460 qs93 q_ini2 q2461) hd2_spellsNumber (mm_le hRf rfl) (mm_le hRl rfl) rfl rfl (Nat.le_of_ble_eq_true rfl) dX2_spellsAll_92 hR hS hl.1 (fun σ92 H locs hw hR hS => ?_)
              exact hJ95 σ92 x1 x2 hw H locs ls hR hS (lv_sub hl [0, 1, 2] rfl)
            · have hw := hw.2 c_53
              refine lv_aload_n hx hb dX2_spellsAll_56 rfl (lv_at hl 0 rfl) ?_
              refine lv_aload_n hx hb dX2_spellsAll_57 rfl (lv_at hl 0 rfl) ?_
              refine mg_47 hx hb hts hown hE hR dX2_spellsAll_58 ?_
              refine lv_iload_n hx hb dX2_spellsAll_61 rfl (lv_at hl 1 rfl) ?_
              obtain ⟨hi_62, hw⟩ := hw
              refine ma_47 hx hb hE hR hi_62 dX2_spellsAll_62 ?_
              refine mc_vv (As := [.int (mga σ 47 x1.toNatClampNeg)]) (rest := []) X (mM_spellsNumber l G o ρ hap σ (mga σ 47 x1.toNatClampNeg) _ hw) (lw_V q2458 q2460 qs93 q_ini2 q2461) hd2_spellsNumber (mm_le hRf rfl) (mm_le hRl rfl) rfl rfl (Nat.le_of_ble_eq_true rfl) dX2_spellsAll_63 hR hS hl.1 (fun σ63 H locs hw hR hS => ?_)
              refine lv_goto (tgt := 95) hx hb dX2_spellsAll_66 (by decide) ?_
              exact hJ95 σ63 x1 x2 hw H locs ls hR hS (lv_sub hl [0, 1, 2] rfl)
          · have hw := hw.2 c_36
            refine lv_aload_n hx hb dX2_spellsAll_39 rfl (lv_at hl 0 rfl) ?_
            refine lv_bipush (v := 63) hx hb dX2_spellsAll_40 (by decide) ?_
            refine mc_vv (As := [.int (63 : Int32)]) (rest := []) X (mM_spells l G o ρ hap σ (63 : Int32) _ hw) (lw_V q2454 q2456 qs92 q_ini2 q2457) hd2_spells (mm_le hRf rfl) (mm_le hRl rfl) rfl rfl (Nat.le_of_ble_eq_true rfl) dX2_spellsAll_42 hR hS hl.1 (fun σ42 H locs hw hR hS => ?_)
            refine lv_iinc (k := 3) (lv' := [(3, .int (x3 + 1)), (0, .ref o), (1, .int x1), (2, .int x2)]) hx hb dX2_spellsAll_45 hl rfl (congrArg (x3 + ·) (by decide : Int32.ofInt 1 = 1)) (by decide) rfl (fun ls hl => ?_)
            refine lv_goto (tgt := 34) hx hb dX2_spellsAll_48 (by decide) ?_
            exact ih34 σ42 (x3 + 1) hw H locs ls hR hS (lv_sub hl [1, 2, 3, 0] rfl)
      have hJ25 : ∀ (σ : mS) (x1 : Int32), wM_spellsAll_j25 (wM_spellsAll_l7  Q   n7) Q σ x1 → ∀ (H : Heap) (locs : List Loc) (ls : Array Slot), mR G o ρ σ H → va_S (mA o ρ) s.heap H locs → lv_has ls 4 [(0, .ref o), (1, .int x1)] → W p l e R s m args below meth c H locs 0 0 QQ (F0 m 25 ls []) := by
        intro σ x1 hw H locs ls hR hS hl
        unfold wM_spellsAll_j25 at hw
        refine lv_aload_n hx hb dX2_spellsAll_25 rfl (lv_at hl 0 rfl) ?_
        refine mg_44 hx hb hts hown hE hR dX2_spellsAll_26 ?_
        refine lv_iload_n hx hb dX2_spellsAll_29 rfl (lv_at hl 1 rfl) ?_
        obtain ⟨hi_30, hw⟩ := hw
        refine ma_44 hx hb hE hR hi_30 dX2_spellsAll_30 ?_
        refine lv_istore_n (lv' := [(2, .int (mga σ 44 x1.toNatClampNeg)), (0, .ref o), (1, .int x1)]) hx hb dX2_spellsAll_31 rfl hl (by decide) rfl (fun ls hl => ?_)
        refine lv_iconst (v := 2) hx hb dX2_spellsAll_32 (by decide) ?_
        refine lv_istore_n (lv' := [(3, .int 2), (2, .int (mga σ 44 x1.toNatClampNeg)), (0, .ref o), (1, .int x1)]) hx hb dX2_spellsAll_33 rfl hl (by decide) rfl (fun ls hl => ?_)
        obtain ⟨n34, hw⟩ := hw
        exact hL34 x1 (mga σ 44 x1.toNatClampNeg) n34 σ (2 : Int32) hw H locs ls hR hS (lv_sub hl [2, 3, 1, 0] rfl)
      intro σ x1 hw H locs ls hR hS hl
      rw [wM_spellsAll_l7] at hw
      refine lv_iload_n hx hb dX2_spellsAll_7 rfl (lv_at hl 1 rfl) ?_
      refine lv_aload_n hx hb dX2_spellsAll_8 rfl (lv_at hl 0 rfl) ?_
      refine mg_23 hx hb hts hown hE hR dX2_spellsAll_9 ?_
      refine lv_icmp_ge (tgt := 112) hx hb dX2_spellsAll_12 (by decide) (fun c_12 => ?_) (fun c_12 => ?_)
      · have hw := hw.1 c_12
        exact hret _ _ _ _ _ hw hR hS dX2_spellsAll_112
      · have hw := hw.2 c_12
        refine lv_iload_n hx hb dX2_spellsAll_15 rfl (lv_at hl 1 rfl) ?_
        refine lv_if_le (tgt := 25) hx hb dX2_spellsAll_16 (by decide) (fun c_16 => ?_) (fun c_16 => ?_)
        · have hw := hw.1 c_16
          exact hJ25 σ x1 hw H locs ls hR hS (lv_sub hl [0, 1] rfl)
        · have hw := hw.2 c_16
          refine lv_aload_n hx hb dX2_spellsAll_19 rfl (lv_at hl 0 rfl) ?_
          refine lv_bipush (v := 43) hx hb dX2_spellsAll_20 (by decide) ?_
          refine mc_vv (As := [.int (43 : Int32)]) (rest := []) X (mM_spells l G o ρ hap σ (43 : Int32) _ hw) (lw_V q2454 q2456 qs92 q_ini2 q2457) hd2_spells (mm_le hRf rfl) (mm_le hRl rfl) rfl rfl (Nat.le_of_ble_eq_true rfl) dX2_spellsAll_22 hR hS hl.1 (fun σ22 H locs hw hR hS => ?_)
          exact hJ25 σ22 x1 hw H locs ls hR hS (lv_sub hl [0, 1] rfl)
  intro H ls hR hS hl
  have hl : lv_has ls 4 [(0, .ref o)] := hl
  generalize ([] : List Loc) = locs at hS ⊢
  unfold wM_spellsAll at hw
  refine lv_aload_n hx hb dX2_spellsAll_0 rfl (lv_at hl 0 rfl) ?_
  refine lv_iconst (v := 0) hx hb dX2_spellsAll_1 (by decide) ?_
  refine mp_63 hx hb hts hown hE hap hR hS dX2_spellsAll_2 (fun σ2 e_σ2 H locs hR hS => ?_)
  have hw := hw σ2 e_σ2
  clear e_σ2
  refine lv_iconst (v := 0) hx hb dX2_spellsAll_5 (by decide) ?_
  refine lv_istore_n (lv' := [(1, .int 0), (0, .ref o)]) hx hb dX2_spellsAll_6 rfl hl (by decide) rfl (fun ls hl => ?_)
  obtain ⟨n7, hw⟩ := hw
  exact hL7  n7 σ2 (0 : Int32) hw H locs ls hR hS (lv_sub hl [1, 0] rfl)
def wM_grow_l106  (Q : Int32 → mS → Prop)   : Nat → mS → Prop
  | 0, _ => False
  | n + 1, σ => (((mgi σ 61) < 0 → wM_spellsAll σ  (fun σ121 => Q (mgi σ121 23) σ121)) ∧ (¬ (mgi σ 61) < 0 → wM_steps σ  (fun σ114 => wM_grow_l106  Q   n σ114)))
def wM_grow_l22  (Q : Int32 → mS → Prop)  (x1 : Int32) : Nat → mS → Int32 → Prop
  | 0, _, _ => False
  | n + 1, σ, x2 => (((9 : Int32) ≤ x2 → wM_degreeOf σ x1 (fun r54 => ∀ σ57 : mS, σ57 = mpi σ 20 r54 → ∀ σ62 : mS, σ62 = mpi σ57 18 1 → ∀ σ67 : mS, σ67 = mpi σ62 21 0 → ∀ σ72 : mS, σ72 = mpi σ67 22 0 → ∀ σ77 : mS, σ77 = mpi σ72 23 0 → ∀ σ82 : mS, σ82 = mpi σ77 61 0 → ∀ σ91 : mS, σ91 = mpa σ82 58 (0 : Int32).toNatClampNeg 0 → ∀ σ98 : mS, σ98 = mpa σ91 59 (0 : Int32).toNatClampNeg 0 → ∀ σ105 : mS, σ105 = mpa σ98 60 (0 : Int32).toNatClampNeg 0 → (∃ k106 : Nat, wM_grow_l106  Q   k106 σ105))) ∧ (¬ (9 : Int32) ≤ x2 → wM_coefficient σ x1 x2 (fun r37 => wM_number σ (r37).toInt64 (fun r41 => vp_in x2 9 ∧ (∀ σ44 : mS, σ44 = mpl σ 19 x2.toNatClampNeg r41 → wM_grow_l22  Q  x1 n σ44 (x2 + 1))))))
def wM_grow (σ : mS) (x1 : Int32) (Q : Int32 → mS → Prop) : Prop :=
  wM_isSlot x1 (fun r1 => ((r1 = 0 → Q ((-1) : Int32) σ) ∧ (¬ r1 = 0 → wM_isMonic σ x1 (fun r11 => ((r11 = 0 → Q ((-3) : Int32) σ) ∧ (¬ r11 = 0 → (∃ k22 : Nat, wM_grow_l22  Q  x1 k22 σ (0 : Int32))))))))
set_option maxHeartbeats 4000000 in
theorem mM_grow (l : Launch) (G : mG) (o : Nat) (ρ : Nat → Nat) (hap : mAp o ρ) (σ : mS) (x1 : Int32) (Q : Int32 → mS → Prop) (hw : wM_grow σ x1 Q) : mMetI l G yX2_grow (ws_ yX2_grow cX2_grow 3 (some .int)) 10 259 o ρ [.ref o, .int x1] σ Q := by
  refine mo_I plain2 rfl (Nat.le_of_ble_eq_true rfl) ?_
  intro p e s R m args below meth c QQ X hRf hRl hret
  obtain ⟨hx, hb, hml, hown, hts, hE⟩ := id X
  have hL106 : ∀ (n106 : Nat) (σ : mS), wM_grow_l106  Q   n106 σ → ∀ (H : Heap) (locs : List Loc) (ls : Array Slot), mR G o ρ σ H → va_S (mA o ρ) s.heap H locs → lv_has ls 3 [(0, .ref o)] → W p l e R s m args below meth c H locs 0 0 QQ (F0 m 106 ls []) := by
    intro  n106
    induction n106 with
    | zero => intro σ hw; exact hw.elim
    | succ n106 ih106 =>
      intro σ hw H locs ls hR hS hl
      rw [wM_grow_l106] at hw
      refine lv_aload_n hx hb dX2_grow_106 rfl (lv_at hl 0 rfl) ?_
      refine mg_61 hx hb hts hown hE hR dX2_grow_107 ?_
      refine lv_if_lt (tgt := 120) hx hb dX2_grow_110 (by decide) (fun c_110 => ?_) (fun c_110 => ?_)
      · have hw := hw.1 c_110
        refine lv_aload_n hx hb dX2_grow_120 rfl (lv_at hl 0 rfl) ?_
        refine mc_vv (As := []) (rest := []) X (mM_spellsAll l G o ρ hap σ  _ hw) (lw_V q2450 q2452 qs91 q_ini2 q2453) hd2_spellsAll (mm_le hRf rfl) (mm_le hRl rfl) rfl rfl (Nat.le_of_ble_eq_true rfl) dX2_grow_121 hR hS hl.1 (fun σ121 H locs hw hR hS => ?_)
        refine lv_aload_n hx hb dX2_grow_124 rfl (lv_at hl 0 rfl) ?_
        refine mg_23 hx hb hts hown hE hR dX2_grow_125 ?_
        exact hret _ _ _ _ _ _ hw hR hS dX2_grow_128
      · have hw := hw.2 c_110
        refine lv_aload_n hx hb dX2_grow_113 rfl (lv_at hl 0 rfl) ?_
        refine mc_vv (As := []) (rest := []) X (mM_steps l G o ρ hap σ  _ hw) (lw_V q2347 q2349 qs66 q_ini2 q2350) hd2_steps (mm_le hRf rfl) (mm_le hRl rfl) rfl rfl (Nat.le_of_ble_eq_true rfl) dX2_grow_114 hR hS hl.1 (fun σ114 H locs hw hR hS => ?_)
        refine lv_goto (tgt := 106) hx hb dX2_grow_117 (by decide) ?_
        exact ih106 σ114 hw H locs ls hR hS (lv_sub hl [0] rfl)
  have hL22 : ∀ (x1 : Int32) (n22 : Nat) (σ : mS) (x2 : Int32), wM_grow_l22  Q  x1 n22 σ x2 → ∀ (H : Heap) (locs : List Loc) (ls : Array Slot), mR G o ρ σ H → va_S (mA o ρ) s.heap H locs → lv_has ls 3 [(0, .ref o), (1, .int x1), (2, .int x2)] → W p l e R s m args below meth c H locs 0 0 QQ (F0 m 22 ls []) := by
    intro x1 n22
    induction n22 with
    | zero => intro σ x2 hw; exact hw.elim
    | succ n22 ih22 =>
      intro σ x2 hw H locs ls hR hS hl
      rw [wM_grow_l22] at hw
      refine lv_iload_n hx hb dX2_grow_22 rfl (lv_at hl 2 rfl) ?_
      refine lv_bipush (v := 9) hx hb dX2_grow_23 (by decide) ?_
      refine lv_icmp_ge (tgt := 51) hx hb dX2_grow_25 (by decide) (fun c_25 => ?_) (fun c_25 => ?_)
      · have hw := hw.1 c_25
        refine lv_aload_n hx hb dX2_grow_51 rfl (lv_at hl 0 rfl) ?_
        refine lv_aload_n hx hb dX2_grow_52 rfl (lv_at hl 0 rfl) ?_
        refine lv_iload_n hx hb dX2_grow_53 rfl (lv_at hl 1 rfl) ?_
        refine mc_vir (As := [.int x1]) (rest := [.ref o]) X (mM_degreeOf l G o ρ hap σ x1 _ hw) (lw_V q2249 q2251 qs53 q_ini2 q2252) hd2_degreeOf (mm_le hRf rfl) (mm_le hRl rfl) rfl rfl (Nat.le_of_ble_eq_true rfl) dX2_grow_54 hR hS hl.1 (fun r54 H locs hw hR hS => ?_)
        refine mp_20 hx hb hts hown hE hap hR hS dX2_grow_57 (fun σ57 e_σ57 H locs hR hS => ?_)
        have hw := hw σ57 e_σ57
        clear e_σ57
        refine lv_aload_n hx hb dX2_grow_60 rfl (lv_at hl 0 rfl) ?_
        refine lv_iconst (v := 1) hx hb dX2_grow_61 (by decide) ?_
        refine mp_18 hx hb hts hown hE hap hR hS (by decide) dX2_grow_62 (fun σ62 e_σ62 H locs hR hS => ?_)
        have hw := hw σ62 e_σ62
        clear e_σ62
        refine lv_aload_n hx hb dX2_grow_65 rfl (lv_at hl 0 rfl) ?_
        refine lv_iconst (v := 0) hx hb dX2_grow_66 (by decide) ?_
        refine mp_21 hx hb hts hown hE hap hR hS dX2_grow_67 (fun σ67 e_σ67 H locs hR hS => ?_)
        have hw := hw σ67 e_σ67
        clear e_σ67
        refine lv_aload_n hx hb dX2_grow_70 rfl (lv_at hl 0 rfl) ?_
        refine lv_iconst (v := 0) hx hb dX2_grow_71 (by decide) ?_
        refine mp_22 hx hb hts hown hE hap hR hS dX2_grow_72 (fun σ72 e_σ72 H locs hR hS => ?_)
        have hw := hw σ72 e_σ72
        clear e_σ72
        refine lv_aload_n hx hb dX2_grow_75 rfl (lv_at hl 0 rfl) ?_
        refine lv_iconst (v := 0) hx hb dX2_grow_76 (by decide) ?_
        refine mp_23 hx hb hts hown hE hap hR hS dX2_grow_77 (fun σ77 e_σ77 H locs hR hS => ?_)
        have hw := hw σ77 e_σ77
        clear e_σ77
        refine lv_aload_n hx hb dX2_grow_80 rfl (lv_at hl 0 rfl) ?_
        refine lv_iconst (v := 0) hx hb dX2_grow_81 (by decide) ?_
        refine mp_61 hx hb hts hown hE hap hR hS dX2_grow_82 (fun σ82 e_σ82 H locs hR hS => ?_)
        have hw := hw σ82 e_σ82
        clear e_σ82
        refine lv_aload_n hx hb dX2_grow_85 rfl (lv_at hl 0 rfl) ?_
        refine mg_58 hx hb hts hown hE hR dX2_grow_86 ?_
        refine lv_iconst (v := 0) hx hb dX2_grow_89 (by decide) ?_
        refine lv_iconst (v := 0) hx hb dX2_grow_90 (by decide) ?_
        refine mst_58 hx hb hE hap hR hS (vp_lit (by decide)) dX2_grow_91 (fun σ91 e_σ91 H locs hR hS => ?_)
        have hw := hw σ91 e_σ91
        clear e_σ91
        refine lv_aload_n hx hb dX2_grow_92 rfl (lv_at hl 0 rfl) ?_
        refine mg_59 hx hb hts hown hE hR dX2_grow_93 ?_
        refine lv_iconst (v := 0) hx hb dX2_grow_96 (by decide) ?_
        refine lv_iconst (v := 0) hx hb dX2_grow_97 (by decide) ?_
        refine mst_59 hx hb hE hap hR hS (vp_lit (by decide)) dX2_grow_98 (fun σ98 e_σ98 H locs hR hS => ?_)
        have hw := hw σ98 e_σ98
        clear e_σ98
        refine lv_aload_n hx hb dX2_grow_99 rfl (lv_at hl 0 rfl) ?_
        refine mg_60 hx hb hts hown hE hR dX2_grow_100 ?_
        refine lv_iconst (v := 0) hx hb dX2_grow_103 (by decide) ?_
        refine lv_iconst (v := 0) hx hb dX2_grow_104 (by decide) ?_
        refine mst_60 hx hb hE hap hR hS (vp_lit (by decide)) dX2_grow_105 (fun σ105 e_σ105 H locs hR hS => ?_)
        have hw := hw σ105 e_σ105
        clear e_σ105
        obtain ⟨n106, hw⟩ := hw
        exact hL106  n106 σ105 hw H locs ls hR hS (lv_sub hl [0] rfl)
      · have hw := hw.2 c_25
        refine lv_aload_n hx hb dX2_grow_28 rfl (lv_at hl 0 rfl) ?_
        refine mg_19 hx hb hts hown hE hR dX2_grow_29 ?_
        refine lv_iload_n hx hb dX2_grow_32 rfl (lv_at hl 2 rfl) ?_
        refine lv_aload_n hx hb dX2_grow_33 rfl (lv_at hl 0 rfl) ?_
        refine lv_aload_n hx hb dX2_grow_34 rfl (lv_at hl 0 rfl) ?_
        refine lv_iload_n hx hb dX2_grow_35 rfl (lv_at hl 1 rfl) ?_
        refine lv_iload_n hx hb dX2_grow_36 rfl (lv_at hl 2 rfl) ?_
        refine mc_vir (As := [.int x1, .int x2]) (rest := [.ref o, .int x2, .ref (ρ 19)]) X (mM_coefficient l G o ρ hap σ x1 x2 _ hw) (lw_V q2253 q2255 qs54 q_ini2 q2256) hd2_coefficient (mm_le hRf rfl) (mm_le hRl rfl) rfl rfl (Nat.le_of_ble_eq_true rfl) dX2_grow_37 hR hS hl.1 (fun r37 H locs hw hR hS => ?_)
        refine lv_i2l hx hb dX2_grow_40 rfl ?_
        refine mc_vlr (As := [.long (r37).toInt64]) (rest := [.int x2, .ref (ρ 19)]) X (mM_number l G o ρ hap σ (r37).toInt64 _ hw) (lw_V q2297 q2299 qs56 q_ini2 q2300) hd2_number (mm_le hRf rfl) (mm_le hRl rfl) rfl rfl (Nat.le_of_ble_eq_true rfl) dX2_grow_41 hR hS hl.1 (fun r41 H locs hw hR hS => ?_)
        obtain ⟨hi_44, hw⟩ := hw
        refine mst_19 hx hb hE hap hR hS hi_44 dX2_grow_44 (fun σ44 e_σ44 H locs hR hS => ?_)
        have hw := hw σ44 e_σ44
        clear e_σ44
        refine lv_iinc (k := 2) (lv' := [(2, .int (x2 + 1)), (0, .ref o), (1, .int x1)]) hx hb dX2_grow_45 hl rfl (congrArg (x2 + ·) (by decide : Int32.ofInt 1 = 1)) (by decide) rfl (fun ls hl => ?_)
        refine lv_goto (tgt := 22) hx hb dX2_grow_48 (by decide) ?_
        exact ih22 σ44 (x2 + 1) hw H locs ls hR hS (lv_sub hl [1, 2, 0] rfl)
  intro H ls hR hS hl
  have hl : lv_has ls 3 [(0, .ref o), (1, .int x1)] := hl
  generalize ([] : List Loc) = locs at hS ⊢
  unfold wM_grow at hw
  refine lv_iload_n hx hb dX2_grow_0 rfl (lv_at hl 1 rfl) ?_
  refine mc_si (As := [.int x1]) (rest := []) X (mM_isSlot l x1 _ hw) (lw_S q2209 q2210 q_ini2 q2211) hd2_isSlot (mm_le hRf rfl) (mm_le hRl rfl) rfl rfl (Nat.le_of_ble_eq_true rfl) dX2_grow_1 hR hS hl.1 (fun r1 H locs hw hR hS => ?_)
  refine lv_if_ne (tgt := 9) hx hb dX2_grow_4 (by decide) (fun c_4 => ?_) (fun c_4 => ?_)
  · have hw := hw.2 c_4
    refine lv_aload_n hx hb dX2_grow_9 rfl (lv_at hl 0 rfl) ?_
    refine lv_iload_n hx hb dX2_grow_10 rfl (lv_at hl 1 rfl) ?_
    refine mc_vir (As := [.int x1]) (rest := []) X (mM_isMonic l G o ρ hap σ x1 _ hw) (lw_V q2273 q2275 qs55 q_ini2 q2276) hd2_isMonic (mm_le hRf rfl) (mm_le hRl rfl) rfl rfl (Nat.le_of_ble_eq_true rfl) dX2_grow_11 hR hS hl.1 (fun r11 H locs hw hR hS => ?_)
    refine lv_if_ne (tgt := 20) hx hb dX2_grow_14 (by decide) (fun c_14 => ?_) (fun c_14 => ?_)
    · have hw := hw.2 c_14
      refine lv_iconst (v := 0) hx hb dX2_grow_20 (by decide) ?_
      refine lv_istore_n (lv' := [(2, .int 0), (0, .ref o), (1, .int x1)]) hx hb dX2_grow_21 rfl hl (by decide) rfl (fun ls hl => ?_)
      obtain ⟨n22, hw⟩ := hw
      exact hL22 x1 n22 σ (0 : Int32) hw H locs ls hR hS (lv_sub hl [1, 2, 0] rfl)
    · have hw := hw.1 c_14
      refine lv_bipush (v := (-3)) hx hb dX2_grow_17 (by decide) ?_
      exact hret _ _ _ _ _ _ hw hR hS dX2_grow_19
  · have hw := hw.1 c_4
    refine lv_iconst (v := (-1)) hx hb dX2_grow_7 (by decide) ?_
    exact hret _ _ _ _ _ _ hw hR hS dX2_grow_8
def wM_asked_l100  (Q : Int32 → Prop) (σ : mS) (x1 : Int32) : Nat → Int32 → Int32 → Prop
  | 0, _, _ => False
  | n + 1, x2, x3 => (((mgi σ 21) ≤ x3 → ∀ y159_0 : Int32, y159_0 = (if x1 = 0 then (mgi σ 21) else (if x1 = (1 : Int32) then (mgi σ 23) else (if x1 = (6 : Int32) then (mgi σ 63) else (if x1 = (7 : Int32) then (mgi σ 20) else x2)))) → Q y159_0) ∧ (¬ (mgi σ 21) ≤ x3 → ((x1 = (2 : Int32) → (vp_in x3 40 ∧ True)) ∧ (¬ x1 = (2 : Int32) → True)) ∧ (∀ y111_0 : Int32, y111_0 = (if x1 = (2 : Int32) then (mga σ 30 x3.toNatClampNeg) else 0) → ((x1 = (5 : Int32) → (vp_in x3 40 ∧ (((mga σ 24 x3.toNatClampNeg) ≤ (x2 + y111_0) → True) ∧ (¬ (mga σ 24 x3.toNatClampNeg) ≤ (x2 + y111_0) → (vp_in x3 40 ∧ True))))) ∧ (¬ x1 = (5 : Int32) → True)) ∧ (∀ y128_0 : Int32, y128_0 = (if x1 = (5 : Int32) then (if (mga σ 24 x3.toNatClampNeg) ≤ (x2 + y111_0) then (x2 + y111_0) else (mga σ 24 x3.toNatClampNeg)) else (x2 + y111_0)) → wM_asked_l100  Q σ x1 n y128_0 (x3 + 1)))))
def wM_asked_l4  (Q : Int32 → Prop) (σ : mS) (x1 : Int32) : Nat → Int32 → Int32 → Prop
  | 0, _, _ => False
  | n + 1, x2, x3 => (((mgi σ 23) ≤ x3 → (∃ k100 : Nat, wM_asked_l100  Q σ x1 k100 x2 (0 : Int32))) ∧ (¬ (mgi σ 23) ≤ x3 → vp_in x3 20 ∧ ((((mga σ 44 x3.toNatClampNeg) = 0 → True) ∧ (¬ (mga σ 44 x3.toNatClampNeg) = 0 → (vp_in x3 20 ∧ True))) ∧ (∀ y18_0 : Int32, y18_0 = (if (mga σ 44 x3.toNatClampNeg) = 0 then 1 else (if (mga σ 44 x3.toNatClampNeg) = (1 : Int32) then 1 else 0)) → ((x1 = (3 : Int32) → ((y18_0 = 0 → (vp_in x3 20 ∧ True)) ∧ (¬ y18_0 = 0 → True))) ∧ (¬ x1 = (3 : Int32) → True)) ∧ (∀ y41_0 : Int32, y41_0 = (if x1 = (3 : Int32) then (if y18_0 = 0 then (mga σ 47 x3.toNatClampNeg) else 0) else 0) → ((x1 = (4 : Int32) → ((y18_0 = 0 → True) ∧ (¬ y18_0 = 0 → (vp_in x3 20 ∧ (((mga σ 45 x3.toNatClampNeg) ≤ (x2 + y41_0) → True) ∧ (¬ (mga σ 45 x3.toNatClampNeg) ≤ (x2 + y41_0) → (vp_in x3 20 ∧ True))))))) ∧ (¬ x1 = (4 : Int32) → True)) ∧ (∀ y63_0 : Int32, y63_0 = (if x1 = (4 : Int32) then (if y18_0 = 0 then (x2 + y41_0) else (if (mga σ 45 x3.toNatClampNeg) ≤ (x2 + y41_0) then (x2 + y41_0) else (mga σ 45 x3.toNatClampNeg))) else (x2 + y41_0)) → wM_asked_l4  Q σ x1 n y63_0 (x3 + 1)))))))
def wM_asked (σ : mS) (x1 : Int32) (Q : Int32 → Prop) : Prop :=
  (∃ k4 : Nat, wM_asked_l4  Q σ x1 k4 (0 : Int32) (0 : Int32))
set_option maxHeartbeats 4000000 in
theorem mM_asked (l : Launch) (G : mG) (o : Nat) (ρ : Nat → Nat) (hap : mAp o ρ) (σ : mS) (x1 : Int32) (Q : Int32 → Prop) (hw : wM_asked σ x1 Q) : mMetI l G yX2_asked (ws_ yX2_asked cX2_asked 5 (some .int)) 0 0 o ρ [.ref o, .int x1] σ (fun r τ => σ = τ ∧ Q r) := by
  refine mo_I plain2 rfl (Nat.le_of_ble_eq_true rfl) ?_
  intro p e s R m args below meth c QQ X hRf hRl hret
  obtain ⟨hx, hb, hml, hown, hts, hE⟩ := id X
  have hL100 : ∀ (x1 : Int32) (n100 : Nat) (x2 : Int32) (x3 : Int32), wM_asked_l100  Q σ x1 n100 x2 x3 → ∀ (H : Heap) (locs : List Loc) (ls : Array Slot), mR G o ρ σ H → va_S (mA o ρ) s.heap H locs → lv_has ls 5 [(0, .ref o), (1, .int x1), (2, .int x2), (3, .int x3)] → W p l e R s m args below meth c H locs 0 0 QQ (F0 m 100 ls []) := by
    intro x1 n100
    induction n100 with
    | zero => intro x2 x3 hw; exact hw.elim
    | succ n100 ih100 =>
      intro x2 x3 hw H locs ls hR hS hl
      rw [wM_asked_l100] at hw
      refine lv_iload_n hx hb dX2_asked_100 rfl (lv_at hl 3 rfl) ?_
      refine lv_aload_n hx hb dX2_asked_101 rfl (lv_at hl 0 rfl) ?_
      refine mg_21 hx hb hts hown hE hR dX2_asked_102 ?_
      refine lv_icmp_ge (tgt := 158) hx hb dX2_asked_105 (by decide) (fun c_105 => ?_) (fun c_105 => ?_)
      · have hw := hw.1 c_105
        refine lv_iload_n hx hb dX2_asked_158 rfl (lv_at hl 1 rfl) ?_
        have hK159 : ∀ (y159_0 : Int32), y159_0 = (if x1 = 0 then (mgi σ 21) else (if x1 = (1 : Int32) then (mgi σ 23) else (if x1 = (6 : Int32) then (mgi σ 63) else (if x1 = (7 : Int32) then (mgi σ 20) else x2)))) → ∀ (ls : Array Slot), lv_has ls 5 [] → W p l e R s m args below meth c H locs 0 0 QQ (F0 m 208 ls [.int y159_0]) := by
          intro y159_0 e_y159_0 ls hl
          have hw := hw y159_0 e_y159_0
          exact hret _ _ _ _ _ _ ⟨rfl, hw⟩ hR hS dX2_asked_208
        refine lv_if_ne (tgt := 169) hx hb dX2_asked_159 (by decide) (fun c_159 => ?_) (fun c_159 => ?_)
        · refine lv_iload_n hx hb dX2_asked_169 rfl (lv_at hl 1 rfl) ?_
          refine lv_iconst (v := 1) hx hb dX2_asked_170 (by decide) ?_
          refine lv_icmp_ne (tgt := 181) hx hb dX2_asked_171 (by decide) (fun c_171 => ?_) (fun c_171 => ?_)
          · refine lv_iload_n hx hb dX2_asked_181 rfl (lv_at hl 1 rfl) ?_
            refine lv_bipush (v := 6) hx hb dX2_asked_182 (by decide) ?_
            refine lv_icmp_ne (tgt := 194) hx hb dX2_asked_184 (by decide) (fun c_184 => ?_) (fun c_184 => ?_)
            · refine lv_iload_n hx hb dX2_asked_194 rfl (lv_at hl 1 rfl) ?_
              refine lv_bipush (v := 7) hx hb dX2_asked_195 (by decide) ?_
              refine lv_icmp_ne (tgt := 207) hx hb dX2_asked_197 (by decide) (fun c_197 => ?_) (fun c_197 => ?_)
              · refine lv_iload_n hx hb dX2_asked_207 rfl (lv_at hl 2 rfl) ?_
                exact hK159 _ ((((if_neg c_197).symm.trans (if_neg c_184).symm).trans (if_neg c_171).symm).trans (if_neg c_159).symm) ls (lv_sub hl [] rfl)
              · refine lv_aload_n hx hb dX2_asked_200 rfl (lv_at hl 0 rfl) ?_
                refine mg_20 hx hb hts hown hE hR dX2_asked_201 ?_
                refine lv_goto (tgt := 208) hx hb dX2_asked_204 (by decide) ?_
                exact hK159 _ ((((if_pos c_197).symm.trans (if_neg c_184).symm).trans (if_neg c_171).symm).trans (if_neg c_159).symm) ls (lv_sub hl [] rfl)
            · refine lv_aload_n hx hb dX2_asked_187 rfl (lv_at hl 0 rfl) ?_
              refine mg_63 hx hb hts hown hE hR dX2_asked_188 ?_
              refine lv_goto (tgt := 208) hx hb dX2_asked_191 (by decide) ?_
              exact hK159 _ (((if_pos c_184).symm.trans (if_neg c_171).symm).trans (if_neg c_159).symm) ls (lv_sub hl [] rfl)
          · refine lv_aload_n hx hb dX2_asked_174 rfl (lv_at hl 0 rfl) ?_
            refine mg_23 hx hb hts hown hE hR dX2_asked_175 ?_
            refine lv_goto (tgt := 208) hx hb dX2_asked_178 (by decide) ?_
            exact hK159 _ ((if_pos c_171).symm.trans (if_neg c_159).symm) ls (lv_sub hl [] rfl)
        · refine lv_aload_n hx hb dX2_asked_162 rfl (lv_at hl 0 rfl) ?_
          refine mg_21 hx hb hts hown hE hR dX2_asked_163 ?_
          refine lv_goto (tgt := 208) hx hb dX2_asked_166 (by decide) ?_
          exact hK159 _ (if_pos c_159).symm ls (lv_sub hl [] rfl)
      · have hw := hw.2 c_105
        refine lv_iload_n hx hb dX2_asked_108 rfl (lv_at hl 2 rfl) ?_
        refine lv_iload_n hx hb dX2_asked_109 rfl (lv_at hl 1 rfl) ?_
        refine lv_iconst (v := 2) hx hb dX2_asked_110 (by decide) ?_
        obtain ⟨hg, hw⟩ := hw
        have hK111 : ∀ (y111_0 : Int32), y111_0 = (if x1 = (2 : Int32) then (mga σ 30 x3.toNatClampNeg) else 0) → ∀ (ls : Array Slot), lv_has ls 5 [(0, .ref o), (1, .int x1), (3, .int x3)] → W p l e R s m args below meth c H locs 0 0 QQ (F0 m 124 ls [.int y111_0, .int x2]) := by
          intro y111_0 e_y111_0 ls hl
          have hw := hw y111_0 e_y111_0
          refine lv_iadd hx hb dX2_asked_124 ?_
          refine lv_istore_n (lv' := [(2, .int (x2 + y111_0)), (0, .ref o), (1, .int x1), (3, .int x3)]) hx hb dX2_asked_125 rfl hl (by decide) rfl (fun ls hl => ?_)
          refine lv_iload_n hx hb dX2_asked_126 rfl (lv_at hl 2 rfl) ?_
          refine lv_iconst (v := 5) hx hb dX2_asked_127 (by decide) ?_
          obtain ⟨hg, hw⟩ := hw
          have hK128 : ∀ (y128_0 : Int32), y128_0 = (if x1 = (5 : Int32) then (if (mga σ 24 x3.toNatClampNeg) ≤ (x2 + y111_0) then (x2 + y111_0) else (mga σ 24 x3.toNatClampNeg)) else (x2 + y111_0)) → ∀ (ls : Array Slot), lv_has ls 5 [(0, .ref o), (1, .int x1), (3, .int x3)] → W p l e R s m args below meth c H locs 0 0 QQ (F0 m 151 ls [.int y128_0]) := by
            intro y128_0 e_y128_0 ls hl
            have hw := hw y128_0 e_y128_0
            refine lv_istore_n (lv' := [(2, .int y128_0), (0, .ref o), (1, .int x1), (3, .int x3)]) hx hb dX2_asked_151 rfl hl (by decide) rfl (fun ls hl => ?_)
            refine lv_iinc (k := 3) (lv' := [(3, .int (x3 + 1)), (2, .int y128_0), (0, .ref o), (1, .int x1)]) hx hb dX2_asked_152 hl rfl (congrArg (x3 + ·) (by decide : Int32.ofInt 1 = 1)) (by decide) rfl (fun ls hl => ?_)
            refine lv_goto (tgt := 100) hx hb dX2_asked_155 (by decide) ?_
            exact ih100 y128_0 (x3 + 1) hw H locs ls hR hS (lv_sub hl [2, 3, 1, 0] rfl)
          refine lv_icmp_ne (tgt := 150) hx hb dX2_asked_128 (by decide) (fun c_128 => ?_) (fun c_128 => ?_)
          · have hg := hg.2 c_128
            refine lv_iload_n hx hb dX2_asked_150 rfl (lv_at hl 0 rfl) ?_
            exact hK128 _ (if_neg c_128).symm ls (lv_sub hl [1, 2, 3] rfl)
          · have hg := hg.1 c_128
            refine lv_aload_n hx hb dX2_asked_131 rfl (lv_at hl 1 rfl) ?_
            refine mg_24 hx hb hts hown hE hR dX2_asked_132 ?_
            refine lv_iload_n hx hb dX2_asked_135 rfl (lv_at hl 3 rfl) ?_
            obtain ⟨hi_136, hg⟩ := hg
            refine ma_24 hx hb hE hR hi_136 dX2_asked_136 ?_
            refine lv_iload_n hx hb dX2_asked_137 rfl (lv_at hl 0 rfl) ?_
            refine lv_icmp_le (tgt := 150) hx hb dX2_asked_138 (by decide) (fun c_138 => ?_) (fun c_138 => ?_)
            · have hg := hg.1 c_138
              refine lv_iload_n hx hb dX2_asked_150 rfl (lv_at hl 0 rfl) ?_
              exact hK128 _ ((if_pos c_138).symm.trans (if_pos c_128).symm) ls (lv_sub hl [1, 2, 3] rfl)
            · have hg := hg.2 c_138
              refine lv_aload_n hx hb dX2_asked_141 rfl (lv_at hl 1 rfl) ?_
              refine mg_24 hx hb hts hown hE hR dX2_asked_142 ?_
              refine lv_iload_n hx hb dX2_asked_145 rfl (lv_at hl 3 rfl) ?_
              obtain ⟨hi_146, hg⟩ := hg
              refine ma_24 hx hb hE hR hi_146 dX2_asked_146 ?_
              refine lv_goto (tgt := 151) hx hb dX2_asked_147 (by decide) ?_
              exact hK128 _ ((if_neg c_138).symm.trans (if_pos c_128).symm) ls (lv_sub hl [1, 2, 3] rfl)
        refine lv_icmp_ne (tgt := 123) hx hb dX2_asked_111 (by decide) (fun c_111 => ?_) (fun c_111 => ?_)
        · have hg := hg.2 c_111
          refine lv_iconst (v := 0) hx hb dX2_asked_123 (by decide) ?_
          exact hK111 _ (if_neg c_111).symm ls (lv_sub hl [0, 1, 3] rfl)
        · have hg := hg.1 c_111
          refine lv_aload_n hx hb dX2_asked_114 rfl (lv_at hl 0 rfl) ?_
          refine mg_30 hx hb hts hown hE hR dX2_asked_115 ?_
          refine lv_iload_n hx hb dX2_asked_118 rfl (lv_at hl 3 rfl) ?_
          obtain ⟨hi_119, hg⟩ := hg
          refine ma_30 hx hb hE hR hi_119 dX2_asked_119 ?_
          refine lv_goto (tgt := 124) hx hb dX2_asked_120 (by decide) ?_
          exact hK111 _ (if_pos c_111).symm ls (lv_sub hl [0, 1, 3] rfl)
  have hL4 : ∀ (x1 : Int32) (n4 : Nat) (x2 : Int32) (x3 : Int32), wM_asked_l4  Q σ x1 n4 x2 x3 → ∀ (H : Heap) (locs : List Loc) (ls : Array Slot), mR G o ρ σ H → va_S (mA o ρ) s.heap H locs → lv_has ls 5 [(0, .ref o), (1, .int x1), (2, .int x2), (3, .int x3)] → W p l e R s m args below meth c H locs 0 0 QQ (F0 m 4 ls []) := by
    intro x1 n4
    induction n4 with
    | zero => intro x2 x3 hw; exact hw.elim
    | succ n4 ih4 =>
      intro x2 x3 hw H locs ls hR hS hl
      rw [wM_asked_l4] at hw
      refine lv_iload_n hx hb dX2_asked_4 rfl (lv_at hl 3 rfl) ?_
      refine lv_aload_n hx hb dX2_asked_5 rfl (lv_at hl 0 rfl) ?_
      refine mg_23 hx hb hts hown hE hR dX2_asked_6 ?_
      refine lv_icmp_ge (tgt := 98) hx hb dX2_asked_9 (by decide) (fun c_9 => ?_) (fun c_9 => ?_)
      · have hw := hw.1 c_9
        refine lv_iconst (v := 0) hx hb dX2_asked_98 (by decide) ?_
        refine lv_istore_n (lv' := [(3, .int 0), (0, .ref o), (1, .int x1), (2, .int x2)]) hx hb dX2_asked_99 rfl hl (by decide) rfl (fun ls hl => ?_)
        obtain ⟨n100, hw⟩ := hw
        exact hL100 x1 n100 x2 (0 : Int32) hw H locs ls hR hS (lv_sub hl [1, 2, 3, 0] rfl)
      · have hw := hw.2 c_9
        refine lv_aload_n hx hb dX2_asked_12 rfl (lv_at hl 0 rfl) ?_
        refine mg_44 hx hb hts hown hE hR dX2_asked_13 ?_
        refine lv_iload_n hx hb dX2_asked_16 rfl (lv_at hl 3 rfl) ?_
        obtain ⟨hi_17, hw⟩ := hw
        refine ma_44 hx hb hE hR hi_17 dX2_asked_17 ?_
        obtain ⟨hg, hw⟩ := hw
        have hK18 : ∀ (y18_0 : Int32), y18_0 = (if (mga σ 44 x3.toNatClampNeg) = 0 then 1 else (if (mga σ 44 x3.toNatClampNeg) = (1 : Int32) then 1 else 0)) → ∀ (ls : Array Slot), lv_has ls 5 [(0, .ref o), (1, .int x1), (2, .int x2), (3, .int x3)] → W p l e R s m args below meth c H locs 0 0 QQ (F0 m 36 ls [.int y18_0]) := by
          intro y18_0 e_y18_0 ls hl
          have hw := hw y18_0 e_y18_0
          refine lv_istore (lv' := [(4, .int y18_0), (0, .ref o), (1, .int x1), (2, .int x2), (3, .int x3)]) hx hb dX2_asked_36 hl (by decide) rfl (fun ls hl => ?_)
          refine lv_iload_n hx hb dX2_asked_38 rfl (lv_at hl 3 rfl) ?_
          refine lv_iload_n hx hb dX2_asked_39 rfl (lv_at hl 2 rfl) ?_
          refine lv_iconst (v := 3) hx hb dX2_asked_40 (by decide) ?_
          obtain ⟨hg, hw⟩ := hw
          have hK41 : ∀ (y41_0 : Int32), y41_0 = (if x1 = (3 : Int32) then (if y18_0 = 0 then (mga σ 47 x3.toNatClampNeg) else 0) else 0) → ∀ (ls : Array Slot), lv_has ls 5 [(0, .ref o), (1, .int x1), (3, .int x3), (4, .int y18_0)] → W p l e R s m args below meth c H locs 0 0 QQ (F0 m 59 ls [.int y41_0, .int x2]) := by
            intro y41_0 e_y41_0 ls hl
            have hw := hw y41_0 e_y41_0
            refine lv_iadd hx hb dX2_asked_59 ?_
            refine lv_istore_n (lv' := [(2, .int (x2 + y41_0)), (0, .ref o), (1, .int x1), (3, .int x3), (4, .int y18_0)]) hx hb dX2_asked_60 rfl hl (by decide) rfl (fun ls hl => ?_)
            refine lv_iload_n hx hb dX2_asked_61 rfl (lv_at hl 2 rfl) ?_
            refine lv_iconst (v := 4) hx hb dX2_asked_62 (by decide) ?_
            obtain ⟨hg, hw⟩ := hw
            have hK63 : ∀ (y63_0 : Int32), y63_0 = (if x1 = (4 : Int32) then (if y18_0 = 0 then (x2 + y41_0) else (if (mga σ 45 x3.toNatClampNeg) ≤ (x2 + y41_0) then (x2 + y41_0) else (mga σ 45 x3.toNatClampNeg))) else (x2 + y41_0)) → ∀ (ls : Array Slot), lv_has ls 5 [(0, .ref o), (1, .int x1), (3, .int x3)] → W p l e R s m args below meth c H locs 0 0 QQ (F0 m 91 ls [.int y63_0]) := by
              intro y63_0 e_y63_0 ls hl
              have hw := hw y63_0 e_y63_0
              refine lv_istore_n (lv' := [(2, .int y63_0), (0, .ref o), (1, .int x1), (3, .int x3)]) hx hb dX2_asked_91 rfl hl (by decide) rfl (fun ls hl => ?_)
              refine lv_iinc (k := 3) (lv' := [(3, .int (x3 + 1)), (2, .int y63_0), (0, .ref o), (1, .int x1)]) hx hb dX2_asked_92 hl rfl (congrArg (x3 + ·) (by decide : Int32.ofInt 1 = 1)) (by decide) rfl (fun ls hl => ?_)
              refine lv_goto (tgt := 4) hx hb dX2_asked_95 (by decide) ?_
              exact ih4 y63_0 (x3 + 1) hw H locs ls hR hS (lv_sub hl [2, 3, 1, 0] rfl)
            refine lv_icmp_ne (tgt := 90) hx hb dX2_asked_63 (by decide) (fun c_63 => ?_) (fun c_63 => ?_)
            · have hg := hg.2 c_63
              refine lv_iload_n hx hb dX2_asked_90 rfl (lv_at hl 0 rfl) ?_
              exact hK63 _ (if_neg c_63).symm ls (lv_sub hl [1, 2, 3] rfl)
            · have hg := hg.1 c_63
              refine lv_iload hx hb dX2_asked_66 (lv_at hl 4 rfl) ?_
              refine lv_if_eq (tgt := 90) hx hb dX2_asked_68 (by decide) (fun c_68 => ?_) (fun c_68 => ?_)
              · have hg := hg.1 c_68
                refine lv_iload_n hx hb dX2_asked_90 rfl (lv_at hl 0 rfl) ?_
                exact hK63 _ ((if_pos c_68).symm.trans (if_pos c_63).symm) ls (lv_sub hl [1, 2, 3] rfl)
              · have hg := hg.2 c_68
                refine lv_aload_n hx hb dX2_asked_71 rfl (lv_at hl 1 rfl) ?_
                refine mg_45 hx hb hts hown hE hR dX2_asked_72 ?_
                refine lv_iload_n hx hb dX2_asked_75 rfl (lv_at hl 3 rfl) ?_
                obtain ⟨hi_76, hg⟩ := hg
                refine ma_45 hx hb hE hR hi_76 dX2_asked_76 ?_
                refine lv_iload_n hx hb dX2_asked_77 rfl (lv_at hl 0 rfl) ?_
                refine lv_icmp_le (tgt := 90) hx hb dX2_asked_78 (by decide) (fun c_78 => ?_) (fun c_78 => ?_)
                · have hg := hg.1 c_78
                  refine lv_iload_n hx hb dX2_asked_90 rfl (lv_at hl 0 rfl) ?_
                  exact hK63 _ (((if_pos c_78).symm.trans (if_neg c_68).symm).trans (if_pos c_63).symm) ls (lv_sub hl [1, 2, 3] rfl)
                · have hg := hg.2 c_78
                  refine lv_aload_n hx hb dX2_asked_81 rfl (lv_at hl 1 rfl) ?_
                  refine mg_45 hx hb hts hown hE hR dX2_asked_82 ?_
                  refine lv_iload_n hx hb dX2_asked_85 rfl (lv_at hl 3 rfl) ?_
                  obtain ⟨hi_86, hg⟩ := hg
                  refine ma_45 hx hb hE hR hi_86 dX2_asked_86 ?_
                  refine lv_goto (tgt := 91) hx hb dX2_asked_87 (by decide) ?_
                  exact hK63 _ (((if_neg c_78).symm.trans (if_neg c_68).symm).trans (if_pos c_63).symm) ls (lv_sub hl [1, 2, 3] rfl)
          refine lv_icmp_ne (tgt := 58) hx hb dX2_asked_41 (by decide) (fun c_41 => ?_) (fun c_41 => ?_)
          · have hg := hg.2 c_41
            refine lv_iconst (v := 0) hx hb dX2_asked_58 (by decide) ?_
            exact hK41 _ (if_neg c_41).symm ls (lv_sub hl [1, 2, 4, 0] rfl)
          · have hg := hg.1 c_41
            refine lv_iload hx hb dX2_asked_44 (lv_at hl 0 rfl) ?_
            refine lv_if_ne (tgt := 58) hx hb dX2_asked_46 (by decide) (fun c_46 => ?_) (fun c_46 => ?_)
            · have hg := hg.2 c_46
              refine lv_iconst (v := 0) hx hb dX2_asked_58 (by decide) ?_
              exact hK41 _ ((if_neg c_46).symm.trans (if_pos c_41).symm) ls (lv_sub hl [1, 2, 4, 0] rfl)
            · have hg := hg.1 c_46
              refine lv_aload_n hx hb dX2_asked_49 rfl (lv_at hl 1 rfl) ?_
              refine mg_47 hx hb hts hown hE hR dX2_asked_50 ?_
              refine lv_iload_n hx hb dX2_asked_53 rfl (lv_at hl 4 rfl) ?_
              obtain ⟨hi_54, hg⟩ := hg
              refine ma_47 hx hb hE hR hi_54 dX2_asked_54 ?_
              refine lv_goto (tgt := 59) hx hb dX2_asked_55 (by decide) ?_
              exact hK41 _ ((if_pos c_46).symm.trans (if_pos c_41).symm) ls (lv_sub hl [1, 2, 4, 0] rfl)
        refine lv_if_eq (tgt := 31) hx hb dX2_asked_18 (by decide) (fun c_18 => ?_) (fun c_18 => ?_)
        · have hg := hg.1 c_18
          refine lv_iconst (v := 1) hx hb dX2_asked_31 (by decide) ?_
          refine lv_goto (tgt := 36) hx hb dX2_asked_32 (by decide) ?_
          exact hK18 _ (if_pos c_18).symm ls (lv_sub hl [0, 1, 2, 3] rfl)
        · have hg := hg.2 c_18
          refine lv_aload_n hx hb dX2_asked_21 rfl (lv_at hl 0 rfl) ?_
          refine mg_44 hx hb hts hown hE hR dX2_asked_22 ?_
          refine lv_iload_n hx hb dX2_asked_25 rfl (lv_at hl 3 rfl) ?_
          obtain ⟨hi_26, hg⟩ := hg
          refine ma_44 hx hb hE hR hi_26 dX2_asked_26 ?_
          refine lv_iconst (v := 1) hx hb dX2_asked_27 (by decide) ?_
          refine lv_icmp_ne (tgt := 35) hx hb dX2_asked_28 (by decide) (fun c_28 => ?_) (fun c_28 => ?_)
          · refine lv_iconst (v := 0) hx hb dX2_asked_35 (by decide) ?_
            exact hK18 _ ((if_neg c_28).symm.trans (if_neg c_18).symm) ls (lv_sub hl [0, 1, 2, 3] rfl)
          · refine lv_iconst (v := 1) hx hb dX2_asked_31 (by decide) ?_
            refine lv_goto (tgt := 36) hx hb dX2_asked_32 (by decide) ?_
            exact hK18 _ ((if_pos c_28).symm.trans (if_neg c_18).symm) ls (lv_sub hl [0, 1, 2, 3] rfl)
  intro H ls hR hS hl
  have hl : lv_has ls 5 [(0, .ref o), (1, .int x1)] := hl
  generalize ([] : List Loc) = locs at hS ⊢
  unfold wM_asked at hw
  refine lv_iconst (v := 0) hx hb dX2_asked_0 (by decide) ?_
  refine lv_istore_n (lv' := [(2, .int 0), (0, .ref o), (1, .int x1)]) hx hb dX2_asked_1 rfl hl (by decide) rfl (fun ls hl => ?_)
  refine lv_iconst (v := 0) hx hb dX2_asked_2 (by decide) ?_
  refine lv_istore_n (lv' := [(3, .int 0), (2, .int 0), (0, .ref o), (1, .int x1)]) hx hb dX2_asked_3 rfl hl (by decide) rfl (fun ls hl => ?_)
  obtain ⟨n4, hw⟩ := hw
  exact hL4 x1 n4 (0 : Int32) (0 : Int32) hw H locs ls hR hS (lv_sub hl [2, 3, 1, 0] rfl)
