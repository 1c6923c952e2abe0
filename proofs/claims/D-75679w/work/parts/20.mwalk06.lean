set_option maxRecDepth 100000
def hw_isSaid_b88 (k4 : Int32 → Int32 → Int32 → hm_S → Prop) (v1_88 : Int32) (v2_88 : Int32) (v3_88 : Int32) (v4_88 : Int32) (σ88 : hm_S) (Q : Int32 → hm_S → Prop) : Prop := vp_in v4_88 346 ∧ ((¬ (hm_gA σ88 6 v4_88) = 21 → vp_in ((v2_88 + (-1)) - 1) 45 ∧ ((¬ (hm_gA σ88 48 ((v2_88 + (-1)) - 1)) = 0 → vp_in ((v2_88 + (-1)) - 1) 45 ∧ (k4 v1_88 (v2_88 + (-1)) (v3_88 + 1) (hm_sA σ88 48 ((v2_88 + (-1)) - 1) 1))) ∧ ((hm_gA σ88 48 ((v2_88 + (-1)) - 1)) = 0 → vp_in (v2_88 + (-1)) 45 ∧ (((hm_gA σ88 48 (v2_88 + (-1))) = 0 → vp_in ((v2_88 + (-1)) - 1) 45 ∧ (k4 v1_88 (v2_88 + (-1)) (v3_88 + 1) (hm_sA σ88 48 ((v2_88 + (-1)) - 1) 0))) ∧ (¬ (hm_gA σ88 48 (v2_88 + (-1))) = 0 → vp_in ((v2_88 + (-1)) - 1) 45 ∧ (k4 v1_88 (v2_88 + (-1)) (v3_88 + 1) (hm_sA σ88 48 ((v2_88 + (-1)) - 1) 1))))))) ∧ ((hm_gA σ88 6 v4_88) = 21 → vp_in ((v2_88 + (-1)) - 1) 45 ∧ (((hm_gA σ88 48 ((v2_88 + (-1)) - 1)) = 0 → vp_in ((v2_88 + (-1)) - 1) 45 ∧ (k4 v1_88 (v2_88 + (-1)) (v3_88 + 1) (hm_sA σ88 48 ((v2_88 + (-1)) - 1) 0))) ∧ (¬ (hm_gA σ88 48 ((v2_88 + (-1)) - 1)) = 0 → vp_in (v2_88 + (-1)) 45 ∧ (((hm_gA σ88 48 (v2_88 + (-1))) = 0 → vp_in ((v2_88 + (-1)) - 1) 45 ∧ (k4 v1_88 (v2_88 + (-1)) (v3_88 + 1) (hm_sA σ88 48 ((v2_88 + (-1)) - 1) 0))) ∧ (¬ (hm_gA σ88 48 (v2_88 + (-1))) = 0 → vp_in ((v2_88 + (-1)) - 1) 45 ∧ (k4 v1_88 (v2_88 + (-1)) (v3_88 + 1) (hm_sA σ88 48 ((v2_88 + (-1)) - 1) 1))))))))
def hw_isSaid_b4 : Nat → Int32 → Int32 → Int32 → hm_S → (Int32 → hm_S → Prop) → Prop
  | 0, _, _, _, _, _ => False
  | n4 + 1, v1_4, v2_4, v3_4, σ4, Q => vp_in 165 346 ∧ (((hm_gA σ4 6 165) ≤ v3_4 → vp_in 0 45 ∧ (hb_B (hm_gA σ4 48 0) ∧ Q (hm_gA σ4 48 0) σ4)) ∧ (¬ (hm_gA σ4 6 165) ≤ v3_4 → vp_in (166 + (3 * v3_4)) 346 ∧ ((¬ (hm_gA σ4 6 (166 + (3 * v3_4))) = 20 → vp_in (166 + (3 * v3_4)) 346 ∧ (((hm_gA σ4 6 (166 + (3 * v3_4))) = 21 → hw_isSaid_b88 (fun (u0 : Int32) (u1 : Int32) (u2 : Int32) (τ : hm_S) => hw_isSaid_b4  n4 u0 u1 u2 τ Q) v1_4 v2_4 v3_4 (166 + (3 * v3_4)) σ4 Q) ∧ (¬ (hm_gA σ4 6 (166 + (3 * v3_4))) = 21 → vp_in (166 + (3 * v3_4)) 346 ∧ ((¬ (hm_gA σ4 6 (166 + (3 * v3_4))) = 22 → vp_in (166 + (3 * v3_4)) 346 ∧ (vp_in ((166 + (3 * v3_4)) + 1) 346 ∧ (vp_in ((166 + (3 * v3_4)) + 2) 346 ∧ (hw_isLeaf v1_4 (hm_gA σ4 6 (166 + (3 * v3_4))) (hm_gA σ4 6 ((166 + (3 * v3_4)) + 1)) (hm_gA σ4 6 ((166 + (3 * v3_4)) + 2)) σ4 (fun r_199 σ_199 => (hb_B r_199 ∧ (vp_in v2_4 45 ∧ (hw_isSaid_b4  n4 v1_4 (v2_4 + 1) (v3_4 + 1) (hm_sA σ_199 48 v2_4 r_199) Q)))))))) ∧ ((hm_gA σ4 6 (166 + (3 * v3_4))) = 22 → hw_isSaid_b88 (fun (u0 : Int32) (u1 : Int32) (u2 : Int32) (τ : hm_S) => hw_isSaid_b4  n4 u0 u1 u2 τ Q) v1_4 v2_4 v3_4 (166 + (3 * v3_4)) σ4 Q))))) ∧ ((hm_gA σ4 6 (166 + (3 * v3_4))) = 20 → vp_in (v2_4 - 1) 45 ∧ ((¬ (hm_gA σ4 48 (v2_4 - 1)) = 0 → vp_in (v2_4 - 1) 45 ∧ (hw_isSaid_b4  n4 v1_4 v2_4 (v3_4 + 1) (hm_sA σ4 48 (v2_4 - 1) 0) Q)) ∧ ((hm_gA σ4 48 (v2_4 - 1)) = 0 → vp_in (v2_4 - 1) 45 ∧ (hw_isSaid_b4  n4 v1_4 v2_4 (v3_4 + 1) (hm_sA σ4 48 (v2_4 - 1) 1) Q)))))))
def hw_isSaid (a1 : Int32) (σ : hm_S) (Q : Int32 → hm_S → Prop) : Prop := ∃ n, hw_isSaid_b4  n a1 0 0 σ Q
set_option maxHeartbeats 4000000 in
set_option maxRecDepth 100000 in
theorem hk_isSaid (l : Launch) (D : va_G) (dA : Nat → ClassId) (o : Nat) (b : Nat → Nat) (hB : hm_D dA o b) (a1 : Int32) (σ : hm_S) {Q : Int32 → hm_S → Prop} (hf : hw_isSaid a1 σ Q) : Met l yX5_isSaid (ws_ yX5_isSaid cX5_isSaid 5 (some .boolean)) (hb_R 4 96) (va_Pc [.ref o, .int a1] (hm_U D dA o b σ)) (va_Qi Q (hm_U D dA o b) (hm_A o b)) 0 0 (hm_A o b) := by
  refine hm_Mz hB (LV := [(0, .ref o), (1, .int a1)]) (by decide) rfl (Nat.le_of_ble_eq_true rfl) (fun p e s m args below meth c ls QQ C M hl hret => ?_)
  have hx := C.1.1
  have hb := C.1.2.1
  have B4 : ∀ (n4 : Nat) (v1_4 : Int32) (v2_4 : Int32) (v3_4 : Int32) (σ4 : hm_S) (H : Heap) (locs : List Loc) (ls : Array Slot), hm_M D dA o b s.heap σ4 H locs → lv_has ls 5 [(0, .ref o), (1, .int v1_4), (2, .int v2_4), (3, .int v3_4)] → hw_isSaid_b4  n4 v1_4 v2_4 v3_4 σ4 Q → W p l e (hb_R 4 96) s m args below meth c H locs 0 0 QQ (F0 m 4 ls []) := by
    intro n4
    induction n4 with
    | zero => intro v1_4 v2_4 v3_4 σ4 H locs ls M hl hf; exact hf.elim
    | succ n4 ih4 =>
      have B88 : ∀ (v1_88 : Int32) (v2_88 : Int32) (v3_88 : Int32) (v4_88 : Int32) (σ88 : hm_S) (H : Heap) (locs : List Loc) (ls : Array Slot), hm_M D dA o b s.heap σ88 H locs → lv_has ls 5 [(0, .ref o), (1, .int v1_88), (2, .int v2_88), (3, .int v3_88), (4, .int v4_88)] → hw_isSaid_b88 (fun (u0 : Int32) (u1 : Int32) (u2 : Int32) (τ : hm_S) => hw_isSaid_b4  n4 u0 u1 u2 τ Q) v1_88 v2_88 v3_88 v4_88 σ88 Q → W p l e (hb_R 4 96) s m args below meth c H locs 0 0 QQ (F0 m 88 ls []) := by
        intro v1_88 v2_88 v3_88 v4_88 σ88 H locs ls M hl hf
        refine lv_iinc (v := v2_88 + (-1)) (lv' := [(2, .int (v2_88 + (-1))), (0, .ref o), (1, .int v1_88), (3, .int v3_88), (4, .int v4_88)]) hx hb dX5_isSaid_88 hl (k := 2) rfl rfl (by decide) rfl (fun ls hl => ?_)
        refine lv_aload_n hx hb dX5_isSaid_91 rfl (lv_at hl 1 rfl) ?_
        refine hm_get C M 48 (by decide) q2115 (v := .ref (b 48)) rfl dX5_isSaid_92 ?_
        refine lv_iload_n hx hb dX5_isSaid_95 rfl (lv_at hl 0 rfl) ?_
        refine lv_iconst (v := 1) hx hb dX5_isSaid_96 rfl ?_
        refine lv_isub hx hb dX5_isSaid_97 ?_
        refine lv_aload_n hx hb dX5_isSaid_98 rfl (lv_at hl 1 rfl) ?_
        refine hm_get C M 6 (by decide) q2073 (v := .ref (b 6)) rfl dX5_isSaid_99 ?_
        refine lv_iload hx hb dX5_isSaid_102 (lv_at hl 4 rfl) ?_
        obtain ⟨g1, hf⟩ := hf
        refine hm_ald6 C M g1 dX5_isSaid_104 ?_
        refine lv_bipush (v := 21) hx hb dX5_isSaid_105 rfl ?_
        obtain ⟨hft, hff⟩ := hf
        refine lv_icmp_ne (tgt := 138) hx hb dX5_isSaid_107 (by decide) (fun c1 => ?_) (fun c1 => ?_)
        · have hf := hft c1
          refine lv_aload_n hx hb dX5_isSaid_138 rfl (lv_at hl 1 rfl) ?_
          refine hm_get C M 48 (by decide) q2115 (v := .ref (b 48)) rfl dX5_isSaid_139 ?_
          refine lv_iload_n hx hb dX5_isSaid_142 rfl (lv_at hl 0 rfl) ?_
          refine lv_iconst (v := 1) hx hb dX5_isSaid_143 rfl ?_
          refine lv_isub hx hb dX5_isSaid_144 ?_
          obtain ⟨g1, hf⟩ := hf
          refine hm_ald48 C M g1 dX5_isSaid_145 ?_
          obtain ⟨hft, hff⟩ := hf
          refine lv_if_ne (tgt := 158) hx hb dX5_isSaid_146 (by decide) (fun c1 => ?_) (fun c1 => ?_)
          · have hf := hft c1
            refine lv_iconst (v := 1) hx hb dX5_isSaid_158 rfl ?_
            refine lv_goto (tgt := 163) hx hb dX5_isSaid_159 (by decide) ?_
            obtain ⟨g1, hf⟩ := hf
            refine hm_ast48 C M hb_B1 g1 dX5_isSaid_163 (fun H locs M => ?_)
            refine lv_goto (tgt := 206) hx hb dX5_isSaid_164 (by decide) ?_
            refine lv_iinc (v := v3_88 + 1) (lv' := [(3, .int (v3_88 + 1)), (2, .int (v2_88 + (-1))), (0, .ref o), (1, .int v1_88), (4, .int v4_88)]) hx hb dX5_isSaid_206 hl (k := 3) rfl rfl (by decide) rfl (fun ls hl => ?_)
            refine lv_goto (tgt := 4) hx hb dX5_isSaid_209 (by decide) ?_
            exact ih4 v1_88 (v2_88 + (-1)) (v3_88 + 1) (hm_sA σ88 48 ((v2_88 + (-1)) - 1) 1) _ _ _ M (lv_sub hl [2, 3, 1, 0] rfl) hf
          · have hf := hff c1
            refine lv_aload_n hx hb dX5_isSaid_149 rfl (lv_at hl 1 rfl) ?_
            refine hm_get C M 48 (by decide) q2115 (v := .ref (b 48)) rfl dX5_isSaid_150 ?_
            refine lv_iload_n hx hb dX5_isSaid_153 rfl (lv_at hl 0 rfl) ?_
            obtain ⟨g1, hf⟩ := hf
            refine hm_ald48 C M g1 dX5_isSaid_154 ?_
            obtain ⟨hft, hff⟩ := hf
            refine lv_if_eq (tgt := 162) hx hb dX5_isSaid_155 (by decide) (fun c1 => ?_) (fun c1 => ?_)
            · have hf := hft c1
              refine lv_iconst (v := 0) hx hb dX5_isSaid_162 rfl ?_
              obtain ⟨g1, hf⟩ := hf
              refine hm_ast48 C M hb_B0 g1 dX5_isSaid_163 (fun H locs M => ?_)
              refine lv_goto (tgt := 206) hx hb dX5_isSaid_164 (by decide) ?_
              refine lv_iinc (v := v3_88 + 1) (lv' := [(3, .int (v3_88 + 1)), (2, .int (v2_88 + (-1))), (0, .ref o), (1, .int v1_88), (4, .int v4_88)]) hx hb dX5_isSaid_206 hl (k := 3) rfl rfl (by decide) rfl (fun ls hl => ?_)
              refine lv_goto (tgt := 4) hx hb dX5_isSaid_209 (by decide) ?_
              exact ih4 v1_88 (v2_88 + (-1)) (v3_88 + 1) (hm_sA σ88 48 ((v2_88 + (-1)) - 1) 0) _ _ _ M (lv_sub hl [2, 3, 1, 0] rfl) hf
            · have hf := hff c1
              refine lv_iconst (v := 1) hx hb dX5_isSaid_158 rfl ?_
              refine lv_goto (tgt := 163) hx hb dX5_isSaid_159 (by decide) ?_
              obtain ⟨g1, hf⟩ := hf
              refine hm_ast48 C M hb_B1 g1 dX5_isSaid_163 (fun H locs M => ?_)
              refine lv_goto (tgt := 206) hx hb dX5_isSaid_164 (by decide) ?_
              refine lv_iinc (v := v3_88 + 1) (lv' := [(3, .int (v3_88 + 1)), (2, .int (v2_88 + (-1))), (0, .ref o), (1, .int v1_88), (4, .int v4_88)]) hx hb dX5_isSaid_206 hl (k := 3) rfl rfl (by decide) rfl (fun ls hl => ?_)
              refine lv_goto (tgt := 4) hx hb dX5_isSaid_209 (by decide) ?_
              exact ih4 v1_88 (v2_88 + (-1)) (v3_88 + 1) (hm_sA σ88 48 ((v2_88 + (-1)) - 1) 1) _ _ _ M (lv_sub hl [2, 3, 1, 0] rfl) hf
        · have hf := hff c1
          refine lv_aload_n hx hb dX5_isSaid_110 rfl (lv_at hl 1 rfl) ?_
          refine hm_get C M 48 (by decide) q2115 (v := .ref (b 48)) rfl dX5_isSaid_111 ?_
          refine lv_iload_n hx hb dX5_isSaid_114 rfl (lv_at hl 0 rfl) ?_
          refine lv_iconst (v := 1) hx hb dX5_isSaid_115 rfl ?_
          refine lv_isub hx hb dX5_isSaid_116 ?_
          obtain ⟨g1, hf⟩ := hf
          refine hm_ald48 C M g1 dX5_isSaid_117 ?_
          obtain ⟨hft, hff⟩ := hf
          refine lv_if_eq (tgt := 134) hx hb dX5_isSaid_118 (by decide) (fun c1 => ?_) (fun c1 => ?_)
          · have hf := hft c1
            refine lv_iconst (v := 0) hx hb dX5_isSaid_134 rfl ?_
            refine lv_goto (tgt := 163) hx hb dX5_isSaid_135 (by decide) ?_
            obtain ⟨g1, hf⟩ := hf
            refine hm_ast48 C M hb_B0 g1 dX5_isSaid_163 (fun H locs M => ?_)
            refine lv_goto (tgt := 206) hx hb dX5_isSaid_164 (by decide) ?_
            refine lv_iinc (v := v3_88 + 1) (lv' := [(3, .int (v3_88 + 1)), (2, .int (v2_88 + (-1))), (0, .ref o), (1, .int v1_88), (4, .int v4_88)]) hx hb dX5_isSaid_206 hl (k := 3) rfl rfl (by decide) rfl (fun ls hl => ?_)
            refine lv_goto (tgt := 4) hx hb dX5_isSaid_209 (by decide) ?_
            exact ih4 v1_88 (v2_88 + (-1)) (v3_88 + 1) (hm_sA σ88 48 ((v2_88 + (-1)) - 1) 0) _ _ _ M (lv_sub hl [2, 3, 1, 0] rfl) hf
          · have hf := hff c1
            refine lv_aload_n hx hb dX5_isSaid_121 rfl (lv_at hl 1 rfl) ?_
            refine hm_get C M 48 (by decide) q2115 (v := .ref (b 48)) rfl dX5_isSaid_122 ?_
            refine lv_iload_n hx hb dX5_isSaid_125 rfl (lv_at hl 0 rfl) ?_
            obtain ⟨g1, hf⟩ := hf
            refine hm_ald48 C M g1 dX5_isSaid_126 ?_
            obtain ⟨hft, hff⟩ := hf
            refine lv_if_eq (tgt := 134) hx hb dX5_isSaid_127 (by decide) (fun c1 => ?_) (fun c1 => ?_)
            · have hf := hft c1
              refine lv_iconst (v := 0) hx hb dX5_isSaid_134 rfl ?_
              refine lv_goto (tgt := 163) hx hb dX5_isSaid_135 (by decide) ?_
              obtain ⟨g1, hf⟩ := hf
              refine hm_ast48 C M hb_B0 g1 dX5_isSaid_163 (fun H locs M => ?_)
              refine lv_goto (tgt := 206) hx hb dX5_isSaid_164 (by decide) ?_
              refine lv_iinc (v := v3_88 + 1) (lv' := [(3, .int (v3_88 + 1)), (2, .int (v2_88 + (-1))), (0, .ref o), (1, .int v1_88), (4, .int v4_88)]) hx hb dX5_isSaid_206 hl (k := 3) rfl rfl (by decide) rfl (fun ls hl => ?_)
              refine lv_goto (tgt := 4) hx hb dX5_isSaid_209 (by decide) ?_
              exact ih4 v1_88 (v2_88 + (-1)) (v3_88 + 1) (hm_sA σ88 48 ((v2_88 + (-1)) - 1) 0) _ _ _ M (lv_sub hl [2, 3, 1, 0] rfl) hf
            · have hf := hff c1
              refine lv_iconst (v := 1) hx hb dX5_isSaid_130 rfl ?_
              refine lv_goto (tgt := 163) hx hb dX5_isSaid_131 (by decide) ?_
              obtain ⟨g1, hf⟩ := hf
              refine hm_ast48 C M hb_B1 g1 dX5_isSaid_163 (fun H locs M => ?_)
              refine lv_goto (tgt := 206) hx hb dX5_isSaid_164 (by decide) ?_
              refine lv_iinc (v := v3_88 + 1) (lv' := [(3, .int (v3_88 + 1)), (2, .int (v2_88 + (-1))), (0, .ref o), (1, .int v1_88), (4, .int v4_88)]) hx hb dX5_isSaid_206 hl (k := 3) rfl rfl (by decide) rfl (fun ls hl => ?_)
              refine lv_goto (tgt := 4) hx hb dX5_isSaid_209 (by decide) ?_
              exact ih4 v1_88 (v2_88 + (-1)) (v3_88 + 1) (hm_sA σ88 48 ((v2_88 + (-1)) - 1) 1) _ _ _ M (lv_sub hl [2, 3, 1, 0] rfl) hf
      intro v1_4 v2_4 v3_4 σ4 H locs ls M hl hf
      refine lv_iload_n hx hb dX5_isSaid_4 rfl (lv_at hl 3 rfl) ?_
      refine lv_aload_n hx hb dX5_isSaid_5 rfl (lv_at hl 0 rfl) ?_
      refine hm_get C M 6 (by decide) q2073 (v := .ref (b 6)) rfl dX5_isSaid_6 ?_
      refine lv_sipush (v := 165) hx hb dX5_isSaid_9 rfl ?_
      obtain ⟨g1, hf⟩ := hf
      refine hm_ald6 C M g1 dX5_isSaid_12 ?_
      obtain ⟨hft, hff⟩ := hf
      refine lv_icmp_ge (tgt := 212) hx hb dX5_isSaid_13 (by decide) (fun c1 => ?_) (fun c1 => ?_)
      · have hf := hft c1
        refine lv_aload_n hx hb dX5_isSaid_212 rfl (lv_at hl 0 rfl) ?_
        refine hm_get C M 48 (by decide) q2115 (v := .ref (b 48)) rfl dX5_isSaid_213 ?_
        refine lv_iconst (v := 0) hx hb dX5_isSaid_216 rfl ?_
        obtain ⟨g1, hf⟩ := hf
        refine hm_ald48 C M g1 dX5_isSaid_217 ?_
        exact hret _ _ _ _ _ _ dX5_isSaid_218 M hf.1 hf.2
      · have hf := hff c1
        refine lv_sipush (v := 166) hx hb dX5_isSaid_16 rfl ?_
        refine lv_iconst (v := 3) hx hb dX5_isSaid_19 rfl ?_
        refine lv_iload_n hx hb dX5_isSaid_20 rfl (lv_at hl 3 rfl) ?_
        refine lv_imul hx hb dX5_isSaid_21 ?_
        refine lv_iadd hx hb dX5_isSaid_22 ?_
        refine lv_istore (lv' := [(4, .int (166 + (3 * v3_4))), (0, .ref o), (1, .int v1_4), (2, .int v2_4), (3, .int v3_4)]) hx hb dX5_isSaid_23 hl (by decide) rfl (fun ls hl => ?_)
        refine lv_aload_n hx hb dX5_isSaid_25 rfl (lv_at hl 1 rfl) ?_
        refine hm_get C M 6 (by decide) q2073 (v := .ref (b 6)) rfl dX5_isSaid_26 ?_
        refine lv_iload hx hb dX5_isSaid_29 (lv_at hl 0 rfl) ?_
        obtain ⟨g1, hf⟩ := hf
        refine hm_ald6 C M g1 dX5_isSaid_31 ?_
        refine lv_bipush (v := 20) hx hb dX5_isSaid_32 rfl ?_
        obtain ⟨hft, hff⟩ := hf
        refine lv_icmp_ne (tgt := 64) hx hb dX5_isSaid_34 (by decide) (fun c1 => ?_) (fun c1 => ?_)
        · have hf := hft c1
          refine lv_aload_n hx hb dX5_isSaid_64 rfl (lv_at hl 1 rfl) ?_
          refine hm_get C M 6 (by decide) q2073 (v := .ref (b 6)) rfl dX5_isSaid_65 ?_
          refine lv_iload hx hb dX5_isSaid_68 (lv_at hl 0 rfl) ?_
          obtain ⟨g1, hf⟩ := hf
          refine hm_ald6 C M g1 dX5_isSaid_70 ?_
          refine lv_bipush (v := 21) hx hb dX5_isSaid_71 rfl ?_
          obtain ⟨hft, hff⟩ := hf
          refine lv_icmp_eq (tgt := 88) hx hb dX5_isSaid_73 (by decide) (fun c1 => ?_) (fun c1 => ?_)
          · have hf := hft c1
            exact B88 v1_4 v2_4 v3_4 (166 + (3 * v3_4)) σ4 _ _ _ M (lv_sub hl [1, 2, 3, 4, 0] rfl) hf
          · have hf := hff c1
            refine lv_aload_n hx hb dX5_isSaid_76 rfl (lv_at hl 1 rfl) ?_
            refine hm_get C M 6 (by decide) q2073 (v := .ref (b 6)) rfl dX5_isSaid_77 ?_
            refine lv_iload hx hb dX5_isSaid_80 (lv_at hl 0 rfl) ?_
            obtain ⟨g1, hf⟩ := hf
            refine hm_ald6 C M g1 dX5_isSaid_82 ?_
            refine lv_bipush (v := 22) hx hb dX5_isSaid_83 rfl ?_
            obtain ⟨hft, hff⟩ := hf
            refine lv_icmp_ne (tgt := 167) hx hb dX5_isSaid_85 (by decide) (fun c1 => ?_) (fun c1 => ?_)
            · have hf := hft c1
              refine lv_aload_n hx hb dX5_isSaid_167 rfl (lv_at hl 1 rfl) ?_
              refine hm_get C M 48 (by decide) q2115 (v := .ref (b 48)) rfl dX5_isSaid_168 ?_
              refine lv_iload_n hx hb dX5_isSaid_171 rfl (lv_at hl 3 rfl) ?_
              refine lv_aload_n hx hb dX5_isSaid_172 rfl (lv_at hl 1 rfl) ?_
              refine lv_iload_n hx hb dX5_isSaid_173 rfl (lv_at hl 2 rfl) ?_
              refine lv_aload_n hx hb dX5_isSaid_174 rfl (lv_at hl 1 rfl) ?_
              refine hm_get C M 6 (by decide) q2073 (v := .ref (b 6)) rfl dX5_isSaid_175 ?_
              refine lv_iload hx hb dX5_isSaid_178 (lv_at hl 0 rfl) ?_
              obtain ⟨g1, hf⟩ := hf
              refine hm_ald6 C M g1 dX5_isSaid_180 ?_
              refine lv_aload_n hx hb dX5_isSaid_181 rfl (lv_at hl 1 rfl) ?_
              refine hm_get C M 6 (by decide) q2073 (v := .ref (b 6)) rfl dX5_isSaid_182 ?_
              refine lv_iload hx hb dX5_isSaid_185 (lv_at hl 0 rfl) ?_
              refine lv_iconst (v := 1) hx hb dX5_isSaid_187 rfl ?_
              refine lv_iadd hx hb dX5_isSaid_188 ?_
              obtain ⟨g1, hf⟩ := hf
              refine hm_ald6 C M g1 dX5_isSaid_189 ?_
              refine lv_aload_n hx hb dX5_isSaid_190 rfl (lv_at hl 1 rfl) ?_
              refine hm_get C M 6 (by decide) q2073 (v := .ref (b 6)) rfl dX5_isSaid_191 ?_
              refine lv_iload hx hb dX5_isSaid_194 (lv_at hl 0 rfl) ?_
              refine lv_iconst (v := 2) hx hb dX5_isSaid_196 rfl ?_
              refine lv_iadd hx hb dX5_isSaid_197 ?_
              obtain ⟨g1, hf⟩ := hf
              refine hm_ald6 C M g1 dX5_isSaid_198 ?_
              refine hm_ci C M hl.1 (As := [.int v1_4, .int (hm_gA σ4 6 (166 + (3 * v3_4))), .int (hm_gA σ4 6 ((166 + (3 * v3_4)) + 1)), .int (hm_gA σ4 6 ((166 + (3 * v3_4)) + 2))]) (rest := [.int v2_4, .ref (b 48)]) (hk_isLeaf l D dA o b hB v1_4 (hm_gA σ4 6 (166 + (3 * v3_4))) (hm_gA σ4 6 ((166 + (3 * v3_4)) + 1)) (hm_gA σ4 6 ((166 + (3 * v3_4)) + 2)) σ4 hf) (n := 4) q2696 q2698 qs123 q140 q2699 (by decide +kernel) rfl ⟨Nat.le_of_ble_eq_true rfl, Nat.le_of_ble_eq_true rfl⟩ rfl (Nat.le_of_ble_eq_true rfl) dX5_isSaid_199 (fun r_199 σ_199 H locs hf M => ?_)
              obtain ⟨g2, hf⟩ := hf
              obtain ⟨g1, hf⟩ := hf
              refine hm_ast48 C M g2 g1 dX5_isSaid_202 (fun H locs M => ?_)
              refine lv_iinc (v := v2_4 + 1) (lv' := [(2, .int (v2_4 + 1)), (4, .int (166 + (3 * v3_4))), (0, .ref o), (1, .int v1_4), (3, .int v3_4)]) hx hb dX5_isSaid_203 hl (k := 3) rfl rfl (by decide) rfl (fun ls hl => ?_)
              refine lv_iinc (v := v3_4 + 1) (lv' := [(3, .int (v3_4 + 1)), (2, .int (v2_4 + 1)), (4, .int (166 + (3 * v3_4))), (0, .ref o), (1, .int v1_4)]) hx hb dX5_isSaid_206 hl (k := 4) rfl rfl (by decide) rfl (fun ls hl => ?_)
              refine lv_goto (tgt := 4) hx hb dX5_isSaid_209 (by decide) ?_
              exact ih4 v1_4 (v2_4 + 1) (v3_4 + 1) (hm_sA σ_199 48 v2_4 r_199) _ _ _ M (lv_sub hl [3, 4, 1, 0] rfl) hf
            · have hf := hff c1
              exact B88 v1_4 v2_4 v3_4 (166 + (3 * v3_4)) σ4 _ _ _ M (lv_sub hl [1, 2, 3, 4, 0] rfl) hf
        · have hf := hff c1
          refine lv_aload_n hx hb dX5_isSaid_37 rfl (lv_at hl 1 rfl) ?_
          refine hm_get C M 48 (by decide) q2115 (v := .ref (b 48)) rfl dX5_isSaid_38 ?_
          refine lv_iload_n hx hb dX5_isSaid_41 rfl (lv_at hl 3 rfl) ?_
          refine lv_iconst (v := 1) hx hb dX5_isSaid_42 rfl ?_
          refine lv_isub hx hb dX5_isSaid_43 ?_
          refine lv_aload_n hx hb dX5_isSaid_44 rfl (lv_at hl 1 rfl) ?_
          refine hm_get C M 48 (by decide) q2115 (v := .ref (b 48)) rfl dX5_isSaid_45 ?_
          refine lv_iload_n hx hb dX5_isSaid_48 rfl (lv_at hl 3 rfl) ?_
          refine lv_iconst (v := 1) hx hb dX5_isSaid_49 rfl ?_
          refine lv_isub hx hb dX5_isSaid_50 ?_
          obtain ⟨g1, hf⟩ := hf
          refine hm_ald48 C M g1 dX5_isSaid_51 ?_
          obtain ⟨hft, hff⟩ := hf
          refine lv_if_ne (tgt := 59) hx hb dX5_isSaid_52 (by decide) (fun c1 => ?_) (fun c1 => ?_)
          · have hf := hft c1
            refine lv_iconst (v := 0) hx hb dX5_isSaid_59 rfl ?_
            obtain ⟨g1, hf⟩ := hf
            refine hm_ast48 C M hb_B0 g1 dX5_isSaid_60 (fun H locs M => ?_)
            refine lv_goto (tgt := 206) hx hb dX5_isSaid_61 (by decide) ?_
            refine lv_iinc (v := v3_4 + 1) (lv' := [(3, .int (v3_4 + 1)), (4, .int (166 + (3 * v3_4))), (0, .ref o), (1, .int v1_4), (2, .int v2_4)]) hx hb dX5_isSaid_206 hl (k := 4) rfl rfl (by decide) rfl (fun ls hl => ?_)
            refine lv_goto (tgt := 4) hx hb dX5_isSaid_209 (by decide) ?_
            exact ih4 v1_4 v2_4 (v3_4 + 1) (hm_sA σ4 48 (v2_4 - 1) 0) _ _ _ M (lv_sub hl [2, 3, 4, 0] rfl) hf
          · have hf := hff c1
            refine lv_iconst (v := 1) hx hb dX5_isSaid_55 rfl ?_
            refine lv_goto (tgt := 60) hx hb dX5_isSaid_56 (by decide) ?_
            obtain ⟨g1, hf⟩ := hf
            refine hm_ast48 C M hb_B1 g1 dX5_isSaid_60 (fun H locs M => ?_)
            refine lv_goto (tgt := 206) hx hb dX5_isSaid_61 (by decide) ?_
            refine lv_iinc (v := v3_4 + 1) (lv' := [(3, .int (v3_4 + 1)), (4, .int (166 + (3 * v3_4))), (0, .ref o), (1, .int v1_4), (2, .int v2_4)]) hx hb dX5_isSaid_206 hl (k := 4) rfl rfl (by decide) rfl (fun ls hl => ?_)
            refine lv_goto (tgt := 4) hx hb dX5_isSaid_209 (by decide) ?_
            exact ih4 v1_4 v2_4 (v3_4 + 1) (hm_sA σ4 48 (v2_4 - 1) 1) _ _ _ M (lv_sub hl [2, 3, 4, 0] rfl) hf
  refine lv_iconst (v := 0) hx hb dX5_isSaid_0 rfl ?_
  refine lv_istore_n (lv' := [(2, .int 0), (0, .ref o), (1, .int a1)]) hx hb dX5_isSaid_1 rfl hl (by decide) rfl (fun ls hl => ?_)
  refine lv_iconst (v := 0) hx hb dX5_isSaid_2 rfl ?_
  refine lv_istore_n (lv' := [(3, .int 0), (2, .int 0), (0, .ref o), (1, .int a1)]) hx hb dX5_isSaid_3 rfl hl (by decide) rfl (fun ls hl => ?_)
  obtain ⟨nn, hf⟩ := hf
  exact B4 nn a1 0 0 σ _ _ _ M (lv_sub hl [2, 3, 1, 0] rfl) hf
def hw_said_b27 : Nat → Int32 → Int32 → Int32 → hm_S → (Int32 → hm_S → Prop) → Prop
  | 0, _, _, _, _, _ => False
  | n27 + 1, v1_27, v2_27, v3_27, σ27, Q => vp_in 0 346 ∧ (((hm_gA σ27 6 0) ≤ v3_27 → (¬ v1_27 = (-1) → Q (-1) σ27) ∧ (v1_27 = (-1) → Q v2_27 σ27)) ∧ (¬ (hm_gA σ27 6 0) ≤ v3_27 → hw_isSaid v3_27 σ27 (fun r_39 σ_39 => ((¬ r_39 = 0 → (¬ v2_27 = v1_27 → hw_said_b27  n27 v1_27 (v2_27 + 1) (v3_27 + 1) σ_39 Q) ∧ (v2_27 = v1_27 → Q v3_27 σ_39)) ∧ (r_39 = 0 → hw_said_b27  n27 v1_27 v2_27 (v3_27 + 1) σ_39 Q)))))
def hw_said (a1 : Int32) (σ : hm_S) (Q : Int32 → hm_S → Prop) : Prop := vp_in 165 346 ∧ (((hm_gA (hm_sI σ 0 0) 6 165) = 0 → Q (-1) (hm_sI σ 0 0)) ∧ (¬ (hm_gA (hm_sI σ 0 0) 6 165) = 0 → ((-1) ≤ a1 → ∃ n, hw_said_b27  n a1 0 0 (hm_sI σ 0 0) Q) ∧ (¬ (-1) ≤ a1 → Q (-1) (hm_sI σ 0 0))))
set_option maxHeartbeats 4000000 in
set_option maxRecDepth 100000 in
theorem hk_said (l : Launch) (D : va_G) (dA : Nat → ClassId) (o : Nat) (b : Nat → Nat) (hB : hm_D dA o b) (a1 : Int32) (σ : hm_S) {Q : Int32 → hm_S → Prop} (hf : hw_said a1 σ Q) : Met l yX5_said (ws_ yX5_said cX5_said 4 (some .int)) (hb_R 5 120) (va_Pc [.ref o, .int a1] (hm_U D dA o b σ)) (va_Qi Q (hm_U D dA o b) (hm_A o b)) 0 0 (hm_A o b) := by
  refine hm_Mi hB (LV := [(0, .ref o), (1, .int a1)]) (by decide) rfl (Nat.le_of_ble_eq_true rfl) (fun p e s m args below meth c ls QQ C M hl hret => ?_)
  have hx := C.1.1
  have hb := C.1.2.1
  have B27 : ∀ (n27 : Nat) (v1_27 : Int32) (v2_27 : Int32) (v3_27 : Int32) (σ27 : hm_S) (H : Heap) (locs : List Loc) (ls : Array Slot), hm_M D dA o b s.heap σ27 H locs → lv_has ls 4 [(0, .ref o), (1, .int v1_27), (2, .int v2_27), (3, .int v3_27)] → hw_said_b27  n27 v1_27 v2_27 v3_27 σ27 Q → W p l e (hb_R 5 120) s m args below meth c H locs 0 0 QQ (F0 m 27 ls []) := by
    intro n27
    induction n27 with
    | zero => intro v1_27 v2_27 v3_27 σ27 H locs ls M hl hf; exact hf.elim
    | succ n27 ih27 =>
      intro v1_27 v2_27 v3_27 σ27 H locs ls M hl hf
      refine lv_iload_n hx hb dX5_said_27 rfl (lv_at hl 3 rfl) ?_
      refine lv_aload_n hx hb dX5_said_28 rfl (lv_at hl 0 rfl) ?_
      refine hm_get C M 6 (by decide) q2073 (v := .ref (b 6)) rfl dX5_said_29 ?_
      refine lv_iconst (v := 0) hx hb dX5_said_32 rfl ?_
      obtain ⟨g1, hf⟩ := hf
      refine hm_ald6 C M g1 dX5_said_33 ?_
      obtain ⟨hft, hff⟩ := hf
      refine lv_icmp_ge (tgt := 64) hx hb dX5_said_34 (by decide) (fun c1 => ?_) (fun c1 => ?_)
      · have hf := hft c1
        refine lv_iload_n hx hb dX5_said_64 rfl (lv_at hl 1 rfl) ?_
        refine lv_iconst (v := (-1)) hx hb dX5_said_65 rfl ?_
        obtain ⟨hft, hff⟩ := hf
        refine lv_icmp_ne (tgt := 73) hx hb dX5_said_66 (by decide) (fun c1 => ?_) (fun c1 => ?_)
        · have hf := hft c1
          refine lv_iconst (v := (-1)) hx hb dX5_said_73 rfl ?_
          exact hret _ _ _ _ _ _ dX5_said_74 M hf
        · have hf := hff c1
          refine lv_iload_n hx hb dX5_said_69 rfl (lv_at hl 2 rfl) ?_
          refine lv_goto (tgt := 74) hx hb dX5_said_70 (by decide) ?_
          exact hret _ _ _ _ _ _ dX5_said_74 M hf
      · have hf := hff c1
        refine lv_aload_n hx hb dX5_said_37 rfl (lv_at hl 0 rfl) ?_
        refine lv_iload_n hx hb dX5_said_38 rfl (lv_at hl 3 rfl) ?_
        refine hm_ci C M hl.1 (As := [.int v3_27]) (rest := []) (hk_isSaid l D dA o b hB v3_27 σ27 hf) (n := 1) q2692 q2694 qs122 q140 q2695 (by decide +kernel) rfl ⟨Nat.le_of_ble_eq_true rfl, Nat.le_of_ble_eq_true rfl⟩ rfl (Nat.le_of_ble_eq_true rfl) dX5_said_39 (fun r_39 σ_39 H locs hf M => ?_)
        obtain ⟨hft, hff⟩ := hf
        refine lv_if_ne (tgt := 48) hx hb dX5_said_42 (by decide) (fun c1 => ?_) (fun c1 => ?_)
        · have hf := hft c1
          refine lv_iload_n hx hb dX5_said_48 rfl (lv_at hl 2 rfl) ?_
          refine lv_iload_n hx hb dX5_said_49 rfl (lv_at hl 1 rfl) ?_
          obtain ⟨hft, hff⟩ := hf
          refine lv_icmp_ne (tgt := 55) hx hb dX5_said_50 (by decide) (fun c1 => ?_) (fun c1 => ?_)
          · have hf := hft c1
            refine lv_iinc (v := v2_27 + 1) (lv' := [(2, .int (v2_27 + 1)), (0, .ref o), (1, .int v1_27), (3, .int v3_27)]) hx hb dX5_said_55 hl (k := 2) rfl rfl (by decide) rfl (fun ls hl => ?_)
            refine lv_iinc (v := v3_27 + 1) (lv' := [(3, .int (v3_27 + 1)), (2, .int (v2_27 + 1)), (0, .ref o), (1, .int v1_27)]) hx hb dX5_said_58 hl (k := 3) rfl rfl (by decide) rfl (fun ls hl => ?_)
            refine lv_goto (tgt := 27) hx hb dX5_said_61 (by decide) ?_
            exact ih27 v1_27 (v2_27 + 1) (v3_27 + 1) σ_39 _ _ _ M (lv_sub hl [2, 3, 1, 0] rfl) hf
          · have hf := hff c1
            refine lv_iload_n hx hb dX5_said_53 rfl (lv_at hl 3 rfl) ?_
            exact hret _ _ _ _ _ _ dX5_said_54 M hf
        · have hf := hff c1
          refine lv_goto (tgt := 58) hx hb dX5_said_45 (by decide) ?_
          refine lv_iinc (v := v3_27 + 1) (lv' := [(3, .int (v3_27 + 1)), (0, .ref o), (1, .int v1_27), (2, .int v2_27)]) hx hb dX5_said_58 hl (k := 3) rfl rfl (by decide) rfl (fun ls hl => ?_)
          refine lv_goto (tgt := 27) hx hb dX5_said_61 (by decide) ?_
          exact ih27 v1_27 v2_27 (v3_27 + 1) σ_39 _ _ _ M (lv_sub hl [1, 2, 3, 0] rfl) hf
  refine lv_aload_n hx hb dX5_said_0 rfl (lv_at hl 0 rfl) ?_
  refine lv_iconst (v := 0) hx hb dX5_said_1 rfl ?_
  refine hm_put0 C M q2067 dX5_said_2 (fun H locs M => ?_)
  refine lv_aload_n hx hb dX5_said_5 rfl (lv_at hl 0 rfl) ?_
  refine hm_get C M 6 (by decide) q2073 (v := .ref (b 6)) rfl dX5_said_6 ?_
  refine lv_sipush (v := 165) hx hb dX5_said_9 rfl ?_
  obtain ⟨g1, hf⟩ := hf
  refine hm_ald6 C M g1 dX5_said_12 ?_
  obtain ⟨hft, hff⟩ := hf
  refine lv_if_eq (tgt := 21) hx hb dX5_said_13 (by decide) (fun c1 => ?_) (fun c1 => ?_)
  · have hf := hft c1
    refine lv_iconst (v := (-1)) hx hb dX5_said_21 rfl ?_
    exact hret _ _ _ _ _ _ dX5_said_22 M hf
  · have hf := hff c1
    refine lv_iload_n hx hb dX5_said_16 rfl (lv_at hl 1 rfl) ?_
    refine lv_iconst (v := (-1)) hx hb dX5_said_17 rfl ?_
    obtain ⟨hft, hff⟩ := hf
    refine lv_icmp_ge (tgt := 23) hx hb dX5_said_18 (by decide) (fun c1 => ?_) (fun c1 => ?_)
    · have hf := hft c1
      refine lv_iconst (v := 0) hx hb dX5_said_23 rfl ?_
      refine lv_istore_n (lv' := [(2, .int 0), (0, .ref o), (1, .int a1)]) hx hb dX5_said_24 rfl hl (by decide) rfl (fun ls hl => ?_)
      refine lv_iconst (v := 0) hx hb dX5_said_25 rfl ?_
      refine lv_istore_n (lv' := [(3, .int 0), (2, .int 0), (0, .ref o), (1, .int a1)]) hx hb dX5_said_26 rfl hl (by decide) rfl (fun ls hl => ?_)
      obtain ⟨nn, hf⟩ := hf
      exact B27 nn a1 0 0 (hm_sI σ 0 0) _ _ _ M (lv_sub hl [2, 3, 1, 0] rfl) hf
    · have hf := hff c1
      refine lv_iconst (v := (-1)) hx hb dX5_said_21 rfl ?_
      exact hret _ _ _ _ _ _ dX5_said_22 M hf
def hw_image_b51 : Nat → Int32 → Int32 → hm_S → (Int32 → hm_S → Prop) → Prop
  | 0, _, _, _, _ => False
  | n51 + 1, v1_51, v2_51, σ51, Q => (12 ≤ v2_51 → vp_in v1_51 2 ∧ (Q 1 (hm_sA σ51 51 v1_51 1))) ∧ (¬ 12 ≤ v2_51 → vp_in v2_51 24 ∧ (vp_in ((12 * v1_51) + v2_51) 24 ∧ (hw_image_b51  n51 v1_51 (v2_51 + 1) (hm_sL σ51 50 ((12 * v1_51) + v2_51) (hm_gL σ51 9 v2_51)) Q)))
def hw_image_b18 : Nat → Int32 → Int32 → hm_S → (Int32 → hm_S → Prop) → Prop
  | 0, _, _, _, _ => False
  | n18 + 1, v1_18, v2_18, σ18, Q => (346 ≤ v2_18 → ∃ n, hw_image_b51  n v1_18 0 σ18 Q) ∧ (¬ 346 ≤ v2_18 → vp_in v2_18 346 ∧ (vp_in ((346 * v1_18) + v2_18) 692 ∧ (hw_image_b18  n18 v1_18 (v2_18 + 1) (hm_sA σ18 49 ((346 * v1_18) + v2_18) (hm_gA σ18 6 v2_18)) Q)))
def hw_image (a1 : Int32) (σ : hm_S) (Q : Int32 → hm_S → Prop) : Prop := hw_isIn a1 0 1 (hm_sI σ 0 0) (fun r_8 σ_8 => ((¬ r_8 = 0 → ∃ n, hw_image_b18  n a1 0 σ_8 Q) ∧ (r_8 = 0 → Q 0 σ_8)))
set_option maxHeartbeats 4000000 in
set_option maxRecDepth 100000 in
theorem hk_image (l : Launch) (D : va_G) (dA : Nat → ClassId) (o : Nat) (b : Nat → Nat) (hB : hm_D dA o b) (a1 : Int32) (σ : hm_S) {Q : Int32 → hm_S → Prop} (hf : hw_image a1 σ Q) : Met l yX5_image (ws_ yX5_image cX5_image 3 (some .boolean)) (hb_R 1 22) (va_Pc [.ref o, .int a1] (hm_U D dA o b σ)) (va_Qi Q (hm_U D dA o b) (hm_A o b)) 0 0 (hm_A o b) := by
  refine hm_Mz hB (LV := [(0, .ref o), (1, .int a1)]) (by decide) rfl (Nat.le_of_ble_eq_true rfl) (fun p e s m args below meth c ls QQ C M hl hret => ?_)
  have hx := C.1.1
  have hb := C.1.2.1
  have B51 : ∀ (n51 : Nat) (v1_51 : Int32) (v2_51 : Int32) (σ51 : hm_S) (H : Heap) (locs : List Loc) (ls : Array Slot), hm_M D dA o b s.heap σ51 H locs → lv_has ls 3 [(0, .ref o), (1, .int v1_51), (2, .int v2_51)] → hw_image_b51  n51 v1_51 v2_51 σ51 Q → W p l e (hb_R 1 22) s m args below meth c H locs 0 0 QQ (F0 m 51 ls []) := by
    intro n51
    induction n51 with
    | zero => intro v1_51 v2_51 σ51 H locs ls M hl hf; exact hf.elim
    | succ n51 ih51 =>
      intro v1_51 v2_51 σ51 H locs ls M hl hf
      refine lv_iload_n hx hb dX5_image_51 rfl (lv_at hl 2 rfl) ?_
      refine lv_bipush (v := 12) hx hb dX5_image_52 rfl ?_
      obtain ⟨hft, hff⟩ := hf
      refine lv_icmp_ge (tgt := 80) hx hb dX5_image_54 (by decide) (fun c1 => ?_) (fun c1 => ?_)
      · have hf := hft c1
        refine lv_aload_n hx hb dX5_image_80 rfl (lv_at hl 0 rfl) ?_
        refine hm_get C M 51 (by decide) q2118 (v := .ref (b 51)) rfl dX5_image_81 ?_
        refine lv_iload_n hx hb dX5_image_84 rfl (lv_at hl 1 rfl) ?_
        refine lv_iconst (v := 1) hx hb dX5_image_85 rfl ?_
        obtain ⟨g1, hf⟩ := hf
        refine hm_ast51 C M hb_B1 g1 dX5_image_86 (fun H locs M => ?_)
        refine lv_iconst (v := 1) hx hb dX5_image_87 rfl ?_
        exact hret _ _ _ _ _ _ dX5_image_88 M hb_B1 hf
      · have hf := hff c1
        refine lv_aload_n hx hb dX5_image_57 rfl (lv_at hl 0 rfl) ?_
        refine hm_get C M 50 (by decide) q2117 (v := .ref (b 50)) rfl dX5_image_58 ?_
        refine lv_bipush (v := 12) hx hb dX5_image_61 rfl ?_
        refine lv_iload_n hx hb dX5_image_63 rfl (lv_at hl 1 rfl) ?_
        refine lv_imul hx hb dX5_image_64 ?_
        refine lv_iload_n hx hb dX5_image_65 rfl (lv_at hl 2 rfl) ?_
        refine lv_iadd hx hb dX5_image_66 ?_
        refine lv_aload_n hx hb dX5_image_67 rfl (lv_at hl 0 rfl) ?_
        refine hm_get C M 9 (by decide) q2076 (v := .ref (b 9)) rfl dX5_image_68 ?_
        refine lv_iload_n hx hb dX5_image_71 rfl (lv_at hl 2 rfl) ?_
        obtain ⟨g1, hf⟩ := hf
        refine hm_ald9 C M g1 dX5_image_72 ?_
        obtain ⟨g1, hf⟩ := hf
        refine hm_ast50 C M g1 dX5_image_73 (fun H locs M => ?_)
        refine lv_iinc (v := v2_51 + 1) (lv' := [(2, .int (v2_51 + 1)), (0, .ref o), (1, .int v1_51)]) hx hb dX5_image_74 hl (k := 2) rfl rfl (by decide) rfl (fun ls hl => ?_)
        refine lv_goto (tgt := 51) hx hb dX5_image_77 (by decide) ?_
        exact ih51 v1_51 (v2_51 + 1) (hm_sL σ51 50 ((12 * v1_51) + v2_51) (hm_gL σ51 9 v2_51)) _ _ _ M (lv_sub hl [1, 2, 0] rfl) hf
  have B18 : ∀ (n18 : Nat) (v1_18 : Int32) (v2_18 : Int32) (σ18 : hm_S) (H : Heap) (locs : List Loc) (ls : Array Slot), hm_M D dA o b s.heap σ18 H locs → lv_has ls 3 [(0, .ref o), (1, .int v1_18), (2, .int v2_18)] → hw_image_b18  n18 v1_18 v2_18 σ18 Q → W p l e (hb_R 1 22) s m args below meth c H locs 0 0 QQ (F0 m 18 ls []) := by
    intro n18
    induction n18 with
    | zero => intro v1_18 v2_18 σ18 H locs ls M hl hf; exact hf.elim
    | succ n18 ih18 =>
      intro v1_18 v2_18 σ18 H locs ls M hl hf
      refine lv_iload_n hx hb dX5_image_18 rfl (lv_at hl 2 rfl) ?_
      refine lv_sipush (v := 346) hx hb dX5_image_19 rfl ?_
      obtain ⟨hft, hff⟩ := hf
      refine lv_icmp_ge (tgt := 49) hx hb dX5_image_22 (by decide) (fun c1 => ?_) (fun c1 => ?_)
      · have hf := hft c1
        refine lv_iconst (v := 0) hx hb dX5_image_49 rfl ?_
        refine lv_istore_n (lv' := [(2, .int 0), (0, .ref o), (1, .int v1_18)]) hx hb dX5_image_50 rfl hl (by decide) rfl (fun ls hl => ?_)
        obtain ⟨nn, hf⟩ := hf
        exact B51 nn v1_18 0 σ18 _ _ _ M (lv_sub hl [1, 2, 0] rfl) hf
      · have hf := hff c1
        refine lv_aload_n hx hb dX5_image_25 rfl (lv_at hl 0 rfl) ?_
        refine hm_get C M 49 (by decide) q2116 (v := .ref (b 49)) rfl dX5_image_26 ?_
        refine lv_sipush (v := 346) hx hb dX5_image_29 rfl ?_
        refine lv_iload_n hx hb dX5_image_32 rfl (lv_at hl 1 rfl) ?_
        refine lv_imul hx hb dX5_image_33 ?_
        refine lv_iload_n hx hb dX5_image_34 rfl (lv_at hl 2 rfl) ?_
        refine lv_iadd hx hb dX5_image_35 ?_
        refine lv_aload_n hx hb dX5_image_36 rfl (lv_at hl 0 rfl) ?_
        refine hm_get C M 6 (by decide) q2073 (v := .ref (b 6)) rfl dX5_image_37 ?_
        refine lv_iload_n hx hb dX5_image_40 rfl (lv_at hl 2 rfl) ?_
        obtain ⟨g1, hf⟩ := hf
        refine hm_ald6 C M g1 dX5_image_41 ?_
        obtain ⟨g1, hf⟩ := hf
        refine hm_ast49 C M g1 dX5_image_42 (fun H locs M => ?_)
        refine lv_iinc (v := v2_18 + 1) (lv' := [(2, .int (v2_18 + 1)), (0, .ref o), (1, .int v1_18)]) hx hb dX5_image_43 hl (k := 2) rfl rfl (by decide) rfl (fun ls hl => ?_)
        refine lv_goto (tgt := 18) hx hb dX5_image_46 (by decide) ?_
        exact ih18 v1_18 (v2_18 + 1) (hm_sA σ18 49 ((346 * v1_18) + v2_18) (hm_gA σ18 6 v2_18)) _ _ _ M (lv_sub hl [1, 2, 0] rfl) hf
  refine lv_aload_n hx hb dX5_image_0 rfl (lv_at hl 0 rfl) ?_
  refine lv_iconst (v := 0) hx hb dX5_image_1 rfl ?_
  refine hm_put0 C M q2067 dX5_image_2 (fun H locs M => ?_)
  refine lv_iload_n hx hb dX5_image_5 rfl (lv_at hl 1 rfl) ?_
  refine lv_iconst (v := 0) hx hb dX5_image_6 rfl ?_
  refine lv_iconst (v := 1) hx hb dX5_image_7 rfl ?_
  refine hm_csi C M hl.1 (As := [.int a1, .int 0, .int 1]) (rest := []) (hk_isIn l D dA o b hB a1 0 1 (hm_sI σ 0 0) hf) (n := 3) q2280 q2281 q140 q2282 (by decide +kernel) rfl ⟨Nat.le_of_ble_eq_true rfl, Nat.le_of_ble_eq_true rfl⟩ rfl (Nat.le_of_ble_eq_true rfl) dX5_image_8 (fun r_8 σ_8 H locs hf M => ?_)
  obtain ⟨hft, hff⟩ := hf
  refine lv_if_ne (tgt := 16) hx hb dX5_image_11 (by decide) (fun c1 => ?_) (fun c1 => ?_)
  · have hf := hft c1
    refine lv_iconst (v := 0) hx hb dX5_image_16 rfl ?_
    refine lv_istore_n (lv' := [(2, .int 0), (0, .ref o), (1, .int a1)]) hx hb dX5_image_17 rfl hl (by decide) rfl (fun ls hl => ?_)
    obtain ⟨nn, hf⟩ := hf
    exact B18 nn a1 0 σ_8 _ _ _ M (lv_sub hl [1, 2, 0] rfl) hf
  · have hf := hff c1
    refine lv_iconst (v := 0) hx hb dX5_image_14 rfl ?_
    exact hret _ _ _ _ _ _ dX5_image_15 M hb_B0 hf
def hw_restore_b60 : Nat → Int32 → Int32 → hm_S → (Int32 → hm_S → Prop) → Prop
  | 0, _, _, _, _ => False
  | n60 + 1, v1_60, v2_60, σ60, Q => (12 ≤ v2_60 → Q 1 (hm_sI σ60 26 0)) ∧ (¬ 12 ≤ v2_60 → vp_in ((12 * v1_60) + v2_60) 24 ∧ (vp_in v2_60 24 ∧ (hw_restore_b60  n60 v1_60 (v2_60 + 1) (hm_sL σ60 9 v2_60 (hm_gL σ60 50 ((12 * v1_60) + v2_60))) Q)))
def hw_restore_b27 : Nat → Int32 → Int32 → hm_S → (Int32 → hm_S → Prop) → Prop
  | 0, _, _, _, _ => False
  | n27 + 1, v1_27, v2_27, σ27, Q => (346 ≤ v2_27 → ∃ n, hw_restore_b60  n v1_27 0 σ27 Q) ∧ (¬ 346 ≤ v2_27 → vp_in ((346 * v1_27) + v2_27) 692 ∧ (vp_in v2_27 346 ∧ (hw_restore_b27  n27 v1_27 (v2_27 + 1) (hm_sA σ27 6 v2_27 (hm_gA σ27 49 ((346 * v1_27) + v2_27))) Q)))
def hw_restore (a1 : Int32) (σ : hm_S) (Q : Int32 → hm_S → Prop) : Prop := hw_isIn a1 0 1 (hm_sI σ 0 0) (fun r_8 σ_8 => ((r_8 = 0 → Q 0 σ_8) ∧ (¬ r_8 = 0 → vp_in a1 2 ∧ ((¬ (hm_gA σ_8 51 a1) = 0 → ∃ n, hw_restore_b27  n a1 0 σ_8 Q) ∧ ((hm_gA σ_8 51 a1) = 0 → Q 0 σ_8)))))
set_option maxHeartbeats 4000000 in
set_option maxRecDepth 100000 in
theorem hk_restore (l : Launch) (D : va_G) (dA : Nat → ClassId) (o : Nat) (b : Nat → Nat) (hB : hm_D dA o b) (a1 : Int32) (σ : hm_S) {Q : Int32 → hm_S → Prop} (hf : hw_restore a1 σ Q) : Met l yX5_restore (ws_ yX5_restore cX5_restore 3 (some .boolean)) (hb_R 1 22) (va_Pc [.ref o, .int a1] (hm_U D dA o b σ)) (va_Qi Q (hm_U D dA o b) (hm_A o b)) 0 0 (hm_A o b) := by
  refine hm_Mz hB (LV := [(0, .ref o), (1, .int a1)]) (by decide) rfl (Nat.le_of_ble_eq_true rfl) (fun p e s m args below meth c ls QQ C M hl hret => ?_)
  have hx := C.1.1
  have hb := C.1.2.1
  have B60 : ∀ (n60 : Nat) (v1_60 : Int32) (v2_60 : Int32) (σ60 : hm_S) (H : Heap) (locs : List Loc) (ls : Array Slot), hm_M D dA o b s.heap σ60 H locs → lv_has ls 3 [(0, .ref o), (1, .int v1_60), (2, .int v2_60)] → hw_restore_b60  n60 v1_60 v2_60 σ60 Q → W p l e (hb_R 1 22) s m args below meth c H locs 0 0 QQ (F0 m 60 ls []) := by
    intro n60
    induction n60 with
    | zero => intro v1_60 v2_60 σ60 H locs ls M hl hf; exact hf.elim
    | succ n60 ih60 =>
      intro v1_60 v2_60 σ60 H locs ls M hl hf
      refine lv_iload_n hx hb dX5_restore_60 rfl (lv_at hl 2 rfl) ?_
      refine lv_bipush (v := 12) hx hb dX5_restore_61 rfl ?_
      obtain ⟨hft, hff⟩ := hf
      refine lv_icmp_ge (tgt := 89) hx hb dX5_restore_63 (by decide) (fun c1 => ?_) (fun c1 => ?_)
      · have hf := hft c1
        refine lv_aload_n hx hb dX5_restore_89 rfl (lv_at hl 0 rfl) ?_
        refine lv_iconst (v := 0) hx hb dX5_restore_90 rfl ?_
        refine hm_put26 C M q2093 dX5_restore_91 (fun H locs M => ?_)
        refine lv_iconst (v := 1) hx hb dX5_restore_94 rfl ?_
        exact hret _ _ _ _ _ _ dX5_restore_95 M hb_B1 hf
      · have hf := hff c1
        refine lv_aload_n hx hb dX5_restore_66 rfl (lv_at hl 0 rfl) ?_
        refine hm_get C M 9 (by decide) q2076 (v := .ref (b 9)) rfl dX5_restore_67 ?_
        refine lv_iload_n hx hb dX5_restore_70 rfl (lv_at hl 2 rfl) ?_
        refine lv_aload_n hx hb dX5_restore_71 rfl (lv_at hl 0 rfl) ?_
        refine hm_get C M 50 (by decide) q2117 (v := .ref (b 50)) rfl dX5_restore_72 ?_
        refine lv_bipush (v := 12) hx hb dX5_restore_75 rfl ?_
        refine lv_iload_n hx hb dX5_restore_77 rfl (lv_at hl 1 rfl) ?_
        refine lv_imul hx hb dX5_restore_78 ?_
        refine lv_iload_n hx hb dX5_restore_79 rfl (lv_at hl 2 rfl) ?_
        refine lv_iadd hx hb dX5_restore_80 ?_
        obtain ⟨g1, hf⟩ := hf
        refine hm_ald50 C M g1 dX5_restore_81 ?_
        obtain ⟨g1, hf⟩ := hf
        refine hm_ast9 C M g1 dX5_restore_82 (fun H locs M => ?_)
        refine lv_iinc (v := v2_60 + 1) (lv' := [(2, .int (v2_60 + 1)), (0, .ref o), (1, .int v1_60)]) hx hb dX5_restore_83 hl (k := 2) rfl rfl (by decide) rfl (fun ls hl => ?_)
        refine lv_goto (tgt := 60) hx hb dX5_restore_86 (by decide) ?_
        exact ih60 v1_60 (v2_60 + 1) (hm_sL σ60 9 v2_60 (hm_gL σ60 50 ((12 * v1_60) + v2_60))) _ _ _ M (lv_sub hl [1, 2, 0] rfl) hf
  have B27 : ∀ (n27 : Nat) (v1_27 : Int32) (v2_27 : Int32) (σ27 : hm_S) (H : Heap) (locs : List Loc) (ls : Array Slot), hm_M D dA o b s.heap σ27 H locs → lv_has ls 3 [(0, .ref o), (1, .int v1_27), (2, .int v2_27)] → hw_restore_b27  n27 v1_27 v2_27 σ27 Q → W p l e (hb_R 1 22) s m args below meth c H locs 0 0 QQ (F0 m 27 ls []) := by
    intro n27
    induction n27 with
    | zero => intro v1_27 v2_27 σ27 H locs ls M hl hf; exact hf.elim
    | succ n27 ih27 =>
      intro v1_27 v2_27 σ27 H locs ls M hl hf
      refine lv_iload_n hx hb dX5_restore_27 rfl (lv_at hl 2 rfl) ?_
      refine lv_sipush (v := 346) hx hb dX5_restore_28 rfl ?_
      obtain ⟨hft, hff⟩ := hf
      refine lv_icmp_ge (tgt := 58) hx hb dX5_restore_31 (by decide) (fun c1 => ?_) (fun c1 => ?_)
      · have hf := hft c1
        refine lv_iconst (v := 0) hx hb dX5_restore_58 rfl ?_
        refine lv_istore_n (lv' := [(2, .int 0), (0, .ref o), (1, .int v1_27)]) hx hb dX5_restore_59 rfl hl (by decide) rfl (fun ls hl => ?_)
        obtain ⟨nn, hf⟩ := hf
        exact B60 nn v1_27 0 σ27 _ _ _ M (lv_sub hl [1, 2, 0] rfl) hf
      · have hf := hff c1
        refine lv_aload_n hx hb dX5_restore_34 rfl (lv_at hl 0 rfl) ?_
        refine hm_get C M 6 (by decide) q2073 (v := .ref (b 6)) rfl dX5_restore_35 ?_
        refine lv_iload_n hx hb dX5_restore_38 rfl (lv_at hl 2 rfl) ?_
        refine lv_aload_n hx hb dX5_restore_39 rfl (lv_at hl 0 rfl) ?_
        refine hm_get C M 49 (by decide) q2116 (v := .ref (b 49)) rfl dX5_restore_40 ?_
        refine lv_sipush (v := 346) hx hb dX5_restore_43 rfl ?_
        refine lv_iload_n hx hb dX5_restore_46 rfl (lv_at hl 1 rfl) ?_
        refine lv_imul hx hb dX5_restore_47 ?_
        refine lv_iload_n hx hb dX5_restore_48 rfl (lv_at hl 2 rfl) ?_
        refine lv_iadd hx hb dX5_restore_49 ?_
        obtain ⟨g1, hf⟩ := hf
        refine hm_ald49 C M g1 dX5_restore_50 ?_
        obtain ⟨g1, hf⟩ := hf
        refine hm_ast6 C M g1 dX5_restore_51 (fun H locs M => ?_)
        refine lv_iinc (v := v2_27 + 1) (lv' := [(2, .int (v2_27 + 1)), (0, .ref o), (1, .int v1_27)]) hx hb dX5_restore_52 hl (k := 2) rfl rfl (by decide) rfl (fun ls hl => ?_)
        refine lv_goto (tgt := 27) hx hb dX5_restore_55 (by decide) ?_
        exact ih27 v1_27 (v2_27 + 1) (hm_sA σ27 6 v2_27 (hm_gA σ27 49 ((346 * v1_27) + v2_27))) _ _ _ M (lv_sub hl [1, 2, 0] rfl) hf
  refine lv_aload_n hx hb dX5_restore_0 rfl (lv_at hl 0 rfl) ?_
  refine lv_iconst (v := 0) hx hb dX5_restore_1 rfl ?_
  refine hm_put0 C M q2067 dX5_restore_2 (fun H locs M => ?_)
  refine lv_iload_n hx hb dX5_restore_5 rfl (lv_at hl 1 rfl) ?_
  refine lv_iconst (v := 0) hx hb dX5_restore_6 rfl ?_
  refine lv_iconst (v := 1) hx hb dX5_restore_7 rfl ?_
  refine hm_csi C M hl.1 (As := [.int a1, .int 0, .int 1]) (rest := []) (hk_isIn l D dA o b hB a1 0 1 (hm_sI σ 0 0) hf) (n := 3) q2280 q2281 q140 q2282 (by decide +kernel) rfl ⟨Nat.le_of_ble_eq_true rfl, Nat.le_of_ble_eq_true rfl⟩ rfl (Nat.le_of_ble_eq_true rfl) dX5_restore_8 (fun r_8 σ_8 H locs hf M => ?_)
  obtain ⟨hft, hff⟩ := hf
  refine lv_if_eq (tgt := 23) hx hb dX5_restore_11 (by decide) (fun c1 => ?_) (fun c1 => ?_)
  · have hf := hft c1
    refine lv_iconst (v := 0) hx hb dX5_restore_23 rfl ?_
    exact hret _ _ _ _ _ _ dX5_restore_24 M hb_B0 hf
  · have hf := hff c1
    refine lv_aload_n hx hb dX5_restore_14 rfl (lv_at hl 0 rfl) ?_
    refine hm_get C M 51 (by decide) q2118 (v := .ref (b 51)) rfl dX5_restore_15 ?_
    refine lv_iload_n hx hb dX5_restore_18 rfl (lv_at hl 1 rfl) ?_
    obtain ⟨g1, hf⟩ := hf
    refine hm_ald51 C M g1 dX5_restore_19 ?_
    obtain ⟨hft, hff⟩ := hf
    refine lv_if_ne (tgt := 25) hx hb dX5_restore_20 (by decide) (fun c1 => ?_) (fun c1 => ?_)
    · have hf := hft c1
      refine lv_iconst (v := 0) hx hb dX5_restore_25 rfl ?_
      refine lv_istore_n (lv' := [(2, .int 0), (0, .ref o), (1, .int a1)]) hx hb dX5_restore_26 rfl hl (by decide) rfl (fun ls hl => ?_)
      obtain ⟨nn, hf⟩ := hf
      exact B27 nn a1 0 σ_8 _ _ _ M (lv_sub hl [1, 2, 0] rfl) hf
    · have hf := hff c1
      refine lv_iconst (v := 0) hx hb dX5_restore_23 rfl ?_
      exact hret _ _ _ _ _ _ dX5_restore_24 M hb_B0 hf
def hw_count (a1 : Int32) (σ : hm_S) (Q : Int32 → hm_S → Prop) : Prop := (¬ a1 = 3 → hw_isIn a1 0 2 (hm_sI σ 0 0) (fun r_20 σ_20 => ((r_20 = 0 → Q (-1) σ_20) ∧ (¬ r_20 = 0 → vp_in a1 346 ∧ (Q (hm_gA σ_20 6 a1) σ_20))))) ∧ (a1 = 3 → Q (hm_gI (hm_sI σ 0 0) 2) (hm_sI σ 0 0))
set_option maxHeartbeats 4000000 in
set_option maxRecDepth 100000 in
theorem hk_count (l : Launch) (D : va_G) (dA : Nat → ClassId) (o : Nat) (b : Nat → Nat) (hB : hm_D dA o b) (a1 : Int32) (σ : hm_S) {Q : Int32 → hm_S → Prop} (hf : hw_count a1 σ Q) : Met l yX5_count (ws_ yX5_count cX5_count 2 (some .int)) (hb_R 1 22) (va_Pc [.ref o, .int a1] (hm_U D dA o b σ)) (va_Qi Q (hm_U D dA o b) (hm_A o b)) 0 0 (hm_A o b) := by
  refine hm_Mi hB (LV := [(0, .ref o), (1, .int a1)]) (by decide) rfl (Nat.le_of_ble_eq_true rfl) (fun p e s m args below meth c ls QQ C M hl hret => ?_)
  have hx := C.1.1
  have hb := C.1.2.1
  refine lv_aload_n hx hb dX5_count_0 rfl (lv_at hl 0 rfl) ?_
  refine lv_iconst (v := 0) hx hb dX5_count_1 rfl ?_
  refine hm_put0 C M q2067 dX5_count_2 (fun H locs M => ?_)
  refine lv_iload_n hx hb dX5_count_5 rfl (lv_at hl 1 rfl) ?_
  refine lv_iconst (v := 3) hx hb dX5_count_6 rfl ?_
  obtain ⟨hft, hff⟩ := hf
  refine lv_icmp_ne (tgt := 17) hx hb dX5_count_7 (by decide) (fun c1 => ?_) (fun c1 => ?_)
  · have hf := hft c1
    refine lv_iload_n hx hb dX5_count_17 rfl (lv_at hl 1 rfl) ?_
    refine lv_iconst (v := 0) hx hb dX5_count_18 rfl ?_
    refine lv_iconst (v := 2) hx hb dX5_count_19 rfl ?_
    refine hm_csi C M hl.1 (As := [.int a1, .int 0, .int 2]) (rest := []) (hk_isIn l D dA o b hB a1 0 2 (hm_sI σ 0 0) hf) (n := 3) q2280 q2281 q140 q2282 (by decide +kernel) rfl ⟨Nat.le_of_ble_eq_true rfl, Nat.le_of_ble_eq_true rfl⟩ rfl (Nat.le_of_ble_eq_true rfl) dX5_count_20 (fun r_20 σ_20 H locs hf M => ?_)
    obtain ⟨hft, hff⟩ := hf
    refine lv_if_eq (tgt := 35) hx hb dX5_count_23 (by decide) (fun c1 => ?_) (fun c1 => ?_)
    · have hf := hft c1
      refine lv_iconst (v := (-1)) hx hb dX5_count_35 rfl ?_
      exact hret _ _ _ _ _ _ dX5_count_36 M hf
    · have hf := hff c1
      refine lv_aload_n hx hb dX5_count_26 rfl (lv_at hl 0 rfl) ?_
      refine hm_get C M 6 (by decide) q2073 (v := .ref (b 6)) rfl dX5_count_27 ?_
      refine lv_iload_n hx hb dX5_count_30 rfl (lv_at hl 1 rfl) ?_
      obtain ⟨g1, hf⟩ := hf
      refine hm_ald6 C M g1 dX5_count_31 ?_
      refine lv_goto (tgt := 36) hx hb dX5_count_32 (by decide) ?_
      exact hret _ _ _ _ _ _ dX5_count_36 M hf
  · have hf := hff c1
    refine lv_aload_n hx hb dX5_count_10 rfl (lv_at hl 0 rfl) ?_
    refine hm_get C M 2 (by decide) q2069 (v := .int (hm_gI (hm_sI σ 0 0) 2)) rfl dX5_count_11 ?_
    refine lv_goto (tgt := 36) hx hb dX5_count_14 (by decide) ?_
    exact hret _ _ _ _ _ _ dX5_count_36 M hf
