set_option maxRecDepth 100000
def hw_fits_b129 : Nat → Int32 → Int32 → hm_S → (Int32 → hm_S → Prop) → Prop
  | 0, _, _, _, _ => False
  | n129 + 1, v1_129, v2_129, σ129, Q => vp_in 0 346 ∧ (((hm_gA σ129 6 0) < v2_129 → Q v1_129 σ129) ∧ (¬ (hm_gA σ129 6 0) < v2_129 → hw_leftBy v1_129 v2_129 σ129 (fun r_142 σ_142 => (hw_leftBy v1_129 (hm_gI σ_142 34) σ_142 (fun r_151 σ_151 => ((r_151 ≤ r_142 → hw_fits_b129  n129 v1_129 (v2_129 + 1) σ_151 Q) ∧ (¬ r_151 ≤ r_142 → hw_fits_b129  n129 v1_129 (v2_129 + 1) (hm_sI σ_151 34 v2_129) Q)))))))
def hw_fits_b77 : Nat → Int32 → Int32 → hm_S → (Int32 → hm_S → Prop) → Prop
  | 0, _, _, _, _ => False
  | n77 + 1, v1_77, v2_77, σ77, Q => vp_in 0 346 ∧ (((hm_gA σ77 6 0) ≤ v2_77 → (¬ v1_77 = 0 → ∃ n, hw_fits_b129  n v1_77 1 (hm_sI (hm_sI σ77 35 1) 34 0) Q) ∧ (v1_77 = 0 → Q 0 σ77)) ∧ (¬ (hm_gA σ77 6 0) ≤ v2_77 → hw_isFit v2_77 σ77 (fun r_90 σ_90 => ((r_90 = 0 → hw_fits_b77  n77 (v1_77 ||| 0) (v2_77 + 1) σ_90 Q) ∧ (¬ r_90 = 0 → hw_fits_b77  n77 (v1_77 ||| ((1 : Int32) <<< (v2_77 &&& 31))) (v2_77 + 1) σ_90 Q)))))
def hw_fits_b39 : Nat → Int32 → hm_S → (Int32 → hm_S → Prop) → Prop
  | 0, _, _, _ => False
  | n39 + 1, v1_39, σ39, Q => ((hm_gI σ39 3) ≤ v1_39 → hw_laysGains  σ39 (fun σ_70 => (∃ n, hw_fits_b77  n 0 0 σ_70 Q))) ∧ (¬ (hm_gI σ39 3) ≤ v1_39 → hw_octet v1_39 σ39 (fun r_49 σ_49 => (vp_in 0 346 ∧ ((r_49 ≤ (hm_gA σ_49 6 0) → hw_fits_b39  n39 (v1_39 + 2) σ_49 Q) ∧ (¬ r_49 ≤ (hm_gA σ_49 6 0) → Q (-1) σ_49)))))
def hw_fits  (σ : hm_S) (Q : Int32 → hm_S → Prop) : Prop := hw_taken 940 (hm_sI σ 0 0) (fun σ_9 => (hw_isIn (hm_gI σ_9 3) 2 12 σ_9 (fun r_19 σ_19 => ((r_19 = 0 → Q (-1) σ_19) ∧ (¬ r_19 = 0 → (¬ ((hm_gI σ_19 3) - (hm_gI σ_19 3) / 2 * 2) = 1 → ∃ n, hw_fits_b39  n 0 σ_19 Q) ∧ (((hm_gI σ_19 3) - (hm_gI σ_19 3) / 2 * 2) = 1 → Q (-1) σ_19))))))
set_option maxHeartbeats 4000000 in
set_option maxRecDepth 100000 in
theorem hk_fits (l : Launch) (D : va_G) (dA : Nat → ClassId) (o : Nat) (b : Nat → Nat) (hB : hm_D dA o b)  (σ : hm_S) {Q : Int32 → hm_S → Prop} (hf : hw_fits  σ Q) : Met l yX5_fits (ws_ yX5_fits cX5_fits 3 (some .int)) (hb_R 8 186) (va_Pc [.ref o] (hm_U D dA o b σ)) (va_Qi Q (hm_U D dA o b) (hm_A o b)) 0 0 (hm_A o b) := by
  refine hm_Mi hB (LV := [(0, .ref o)]) (by decide) rfl (Nat.le_of_ble_eq_true rfl) (fun p e s m args below meth c ls QQ C M hl hret => ?_)
  have hx := C.1.1
  have hb := C.1.2.1
  have B129 : ∀ (n129 : Nat) (v1_129 : Int32) (v2_129 : Int32) (σ129 : hm_S) (H : Heap) (locs : List Loc) (ls : Array Slot), hm_M D dA o b s.heap σ129 H locs → lv_has ls 3 [(0, .ref o), (1, .int v1_129), (2, .int v2_129)] → hw_fits_b129  n129 v1_129 v2_129 σ129 Q → W p l e (hb_R 8 186) s m args below meth c H locs 0 0 QQ (F0 m 129 ls []) := by
    intro n129
    induction n129 with
    | zero => intro v1_129 v2_129 σ129 H locs ls M hl hf; exact hf.elim
    | succ n129 ih129 =>
      intro v1_129 v2_129 σ129 H locs ls M hl hf
      refine lv_iload_n hx hb dX5_fits_129 rfl (lv_at hl 2 rfl) ?_
      refine lv_aload_n hx hb dX5_fits_130 rfl (lv_at hl 0 rfl) ?_
      refine hm_get C M 6 (by decide) q2073 (v := .ref (b 6)) rfl dX5_fits_131 ?_
      refine lv_iconst (v := 0) hx hb dX5_fits_134 rfl ?_
      obtain ⟨g1, hf⟩ := hf
      refine hm_ald6 C M g1 dX5_fits_135 ?_
      obtain ⟨hft, hff⟩ := hf
      refine lv_icmp_gt (tgt := 168) hx hb dX5_fits_136 (by decide) (fun c1 => ?_) (fun c1 => ?_)
      · have hf := hft c1
        refine lv_iload_n hx hb dX5_fits_168 rfl (lv_at hl 1 rfl) ?_
        exact hret _ _ _ _ _ _ dX5_fits_169 M hf
      · have hf := hff c1
        refine lv_aload_n hx hb dX5_fits_139 rfl (lv_at hl 0 rfl) ?_
        refine lv_iload_n hx hb dX5_fits_140 rfl (lv_at hl 1 rfl) ?_
        refine lv_iload_n hx hb dX5_fits_141 rfl (lv_at hl 2 rfl) ?_
        refine hm_ci C M hl.1 (As := [.int v1_129, .int v2_129]) (rest := []) (hk_leftBy l D dA o b hB v1_129 v2_129 σ129 hf) (n := 2) q2565 q2567 qs105 q140 q2568 (by decide +kernel) rfl ⟨Nat.le_of_ble_eq_true rfl, Nat.le_of_ble_eq_true rfl⟩ rfl (Nat.le_of_ble_eq_true rfl) dX5_fits_142 (fun r_142 σ_142 H locs hf M => ?_)
        refine lv_aload_n hx hb dX5_fits_145 rfl (lv_at hl 0 rfl) ?_
        refine lv_iload_n hx hb dX5_fits_146 rfl (lv_at hl 1 rfl) ?_
        refine lv_aload_n hx hb dX5_fits_147 rfl (lv_at hl 0 rfl) ?_
        refine hm_get C M 34 (by decide) q2101 (v := .int (hm_gI σ_142 34)) rfl dX5_fits_148 ?_
        refine hm_ci C M hl.1 (As := [.int v1_129, .int (hm_gI σ_142 34)]) (rest := [.int r_142]) (hk_leftBy l D dA o b hB v1_129 (hm_gI σ_142 34) σ_142 hf) (n := 2) q2565 q2567 qs105 q140 q2568 (by decide +kernel) rfl ⟨Nat.le_of_ble_eq_true rfl, Nat.le_of_ble_eq_true rfl⟩ rfl (Nat.le_of_ble_eq_true rfl) dX5_fits_151 (fun r_151 σ_151 H locs hf M => ?_)
        obtain ⟨hft, hff⟩ := hf
        refine lv_icmp_ge (tgt := 162) hx hb dX5_fits_154 (by decide) (fun c1 => ?_) (fun c1 => ?_)
        · have hf := hft c1
          refine lv_iinc (v := v2_129 + 1) (lv' := [(2, .int (v2_129 + 1)), (0, .ref o), (1, .int v1_129)]) hx hb dX5_fits_162 hl (k := 2) rfl rfl (by decide) rfl (fun ls hl => ?_)
          refine lv_goto (tgt := 129) hx hb dX5_fits_165 (by decide) ?_
          exact ih129 v1_129 (v2_129 + 1) σ_151 _ _ _ M (lv_sub hl [1, 2, 0] rfl) hf
        · have hf := hff c1
          refine lv_aload_n hx hb dX5_fits_157 rfl (lv_at hl 0 rfl) ?_
          refine lv_iload_n hx hb dX5_fits_158 rfl (lv_at hl 2 rfl) ?_
          refine hm_put34 C M q2101 dX5_fits_159 (fun H locs M => ?_)
          refine lv_iinc (v := v2_129 + 1) (lv' := [(2, .int (v2_129 + 1)), (0, .ref o), (1, .int v1_129)]) hx hb dX5_fits_162 hl (k := 2) rfl rfl (by decide) rfl (fun ls hl => ?_)
          refine lv_goto (tgt := 129) hx hb dX5_fits_165 (by decide) ?_
          exact ih129 v1_129 (v2_129 + 1) (hm_sI σ_151 34 v2_129) _ _ _ M (lv_sub hl [1, 2, 0] rfl) hf
  have B77 : ∀ (n77 : Nat) (v1_77 : Int32) (v2_77 : Int32) (σ77 : hm_S) (H : Heap) (locs : List Loc) (ls : Array Slot), hm_M D dA o b s.heap σ77 H locs → lv_has ls 3 [(0, .ref o), (1, .int v1_77), (2, .int v2_77)] → hw_fits_b77  n77 v1_77 v2_77 σ77 Q → W p l e (hb_R 8 186) s m args below meth c H locs 0 0 QQ (F0 m 77 ls []) := by
    intro n77
    induction n77 with
    | zero => intro v1_77 v2_77 σ77 H locs ls M hl hf; exact hf.elim
    | succ n77 ih77 =>
      intro v1_77 v2_77 σ77 H locs ls M hl hf
      refine lv_iload_n hx hb dX5_fits_77 rfl (lv_at hl 2 rfl) ?_
      refine lv_aload_n hx hb dX5_fits_78 rfl (lv_at hl 0 rfl) ?_
      refine hm_get C M 6 (by decide) q2073 (v := .ref (b 6)) rfl dX5_fits_79 ?_
      refine lv_iconst (v := 0) hx hb dX5_fits_82 rfl ?_
      obtain ⟨g1, hf⟩ := hf
      refine hm_ald6 C M g1 dX5_fits_83 ?_
      obtain ⟨hft, hff⟩ := hf
      refine lv_icmp_ge (tgt := 111) hx hb dX5_fits_84 (by decide) (fun c1 => ?_) (fun c1 => ?_)
      · have hf := hft c1
        refine lv_iload_n hx hb dX5_fits_111 rfl (lv_at hl 1 rfl) ?_
        obtain ⟨hft, hff⟩ := hf
        refine lv_if_ne (tgt := 117) hx hb dX5_fits_112 (by decide) (fun c1 => ?_) (fun c1 => ?_)
        · have hf := hft c1
          refine lv_aload_n hx hb dX5_fits_117 rfl (lv_at hl 0 rfl) ?_
          refine lv_iconst (v := 1) hx hb dX5_fits_118 rfl ?_
          refine hm_put35 C M hb_B1 q2102 dX5_fits_119 (fun H locs M => ?_)
          refine lv_aload_n hx hb dX5_fits_122 rfl (lv_at hl 0 rfl) ?_
          refine lv_iconst (v := 0) hx hb dX5_fits_123 rfl ?_
          refine hm_put34 C M q2101 dX5_fits_124 (fun H locs M => ?_)
          refine lv_iconst (v := 1) hx hb dX5_fits_127 rfl ?_
          refine lv_istore_n (lv' := [(2, .int 1), (0, .ref o), (1, .int v1_77)]) hx hb dX5_fits_128 rfl hl (by decide) rfl (fun ls hl => ?_)
          obtain ⟨nn, hf⟩ := hf
          exact B129 nn v1_77 1 (hm_sI (hm_sI σ77 35 1) 34 0) _ _ _ M (lv_sub hl [1, 2, 0] rfl) hf
        · have hf := hff c1
          refine lv_iconst (v := 0) hx hb dX5_fits_115 rfl ?_
          exact hret _ _ _ _ _ _ dX5_fits_116 M hf
      · have hf := hff c1
        refine lv_iload_n hx hb dX5_fits_87 rfl (lv_at hl 1 rfl) ?_
        refine lv_aload_n hx hb dX5_fits_88 rfl (lv_at hl 0 rfl) ?_
        refine lv_iload_n hx hb dX5_fits_89 rfl (lv_at hl 2 rfl) ?_
        refine hm_ci C M hl.1 (As := [.int v2_77]) (rest := [.int v1_77]) (hk_isFit l D dA o b hB v2_77 σ77 hf) (n := 1) q2561 q2563 qs104 q140 q2564 (by decide +kernel) rfl ⟨Nat.le_of_ble_eq_true rfl, Nat.le_of_ble_eq_true rfl⟩ rfl (Nat.le_of_ble_eq_true rfl) dX5_fits_90 (fun r_90 σ_90 H locs hf M => ?_)
        obtain ⟨hft, hff⟩ := hf
        refine lv_if_eq (tgt := 102) hx hb dX5_fits_93 (by decide) (fun c1 => ?_) (fun c1 => ?_)
        · have hf := hft c1
          refine lv_iconst (v := 0) hx hb dX5_fits_102 rfl ?_
          refine lv_ior hx hb dX5_fits_103 ?_
          refine lv_istore_n (lv' := [(1, .int (v1_77 ||| 0)), (0, .ref o), (2, .int v2_77)]) hx hb dX5_fits_104 rfl hl (by decide) rfl (fun ls hl => ?_)
          refine lv_iinc (v := v2_77 + 1) (lv' := [(2, .int (v2_77 + 1)), (1, .int (v1_77 ||| 0)), (0, .ref o)]) hx hb dX5_fits_105 hl (k := 2) rfl rfl (by decide) rfl (fun ls hl => ?_)
          refine lv_goto (tgt := 77) hx hb dX5_fits_108 (by decide) ?_
          exact ih77 (v1_77 ||| 0) (v2_77 + 1) σ_90 _ _ _ M (lv_sub hl [2, 1, 0] rfl) hf
        · have hf := hff c1
          refine lv_iconst (v := 1) hx hb dX5_fits_96 rfl ?_
          refine lv_iload_n hx hb dX5_fits_97 rfl (lv_at hl 2 rfl) ?_
          refine lv_ishl hx hb dX5_fits_98 ?_
          refine lv_goto (tgt := 103) hx hb dX5_fits_99 (by decide) ?_
          refine lv_ior hx hb dX5_fits_103 ?_
          refine lv_istore_n (lv' := [(1, .int (v1_77 ||| ((1 : Int32) <<< (v2_77 &&& 31)))), (0, .ref o), (2, .int v2_77)]) hx hb dX5_fits_104 rfl hl (by decide) rfl (fun ls hl => ?_)
          refine lv_iinc (v := v2_77 + 1) (lv' := [(2, .int (v2_77 + 1)), (1, .int (v1_77 ||| ((1 : Int32) <<< (v2_77 &&& 31)))), (0, .ref o)]) hx hb dX5_fits_105 hl (k := 2) rfl rfl (by decide) rfl (fun ls hl => ?_)
          refine lv_goto (tgt := 77) hx hb dX5_fits_108 (by decide) ?_
          exact ih77 (v1_77 ||| ((1 : Int32) <<< (v2_77 &&& 31))) (v2_77 + 1) σ_90 _ _ _ M (lv_sub hl [2, 1, 0] rfl) hf
  have B39 : ∀ (n39 : Nat) (v1_39 : Int32) (σ39 : hm_S) (H : Heap) (locs : List Loc) (ls : Array Slot), hm_M D dA o b s.heap σ39 H locs → lv_has ls 3 [(0, .ref o), (1, .int v1_39)] → hw_fits_b39  n39 v1_39 σ39 Q → W p l e (hb_R 8 186) s m args below meth c H locs 0 0 QQ (F0 m 39 ls []) := by
    intro n39
    induction n39 with
    | zero => intro v1_39 σ39 H locs ls M hl hf; exact hf.elim
    | succ n39 ih39 =>
      intro v1_39 σ39 H locs ls M hl hf
      refine lv_iload_n hx hb dX5_fits_39 rfl (lv_at hl 1 rfl) ?_
      refine lv_aload_n hx hb dX5_fits_40 rfl (lv_at hl 0 rfl) ?_
      refine hm_get C M 3 (by decide) q2070 (v := .int (hm_gI σ39 3)) rfl dX5_fits_41 ?_
      obtain ⟨hft, hff⟩ := hf
      refine lv_icmp_ge (tgt := 69) hx hb dX5_fits_44 (by decide) (fun c1 => ?_) (fun c1 => ?_)
      · have hf := hft c1
        refine lv_aload_n hx hb dX5_fits_69 rfl (lv_at hl 0 rfl) ?_
        refine hm_cv C M hl.1 (As := []) (rest := []) (hk_laysGains l D dA o b hB  σ39 hf) (n := 0) q2500 q2502 qs98 q140 q2503 (by decide +kernel) rfl ⟨Nat.le_of_ble_eq_true rfl, Nat.le_of_ble_eq_true rfl⟩ rfl (Nat.le_of_ble_eq_true rfl) dX5_fits_70 (fun σ_70 H locs hf M => ?_)
        refine lv_iconst (v := 0) hx hb dX5_fits_73 rfl ?_
        refine lv_istore_n (lv' := [(1, .int 0), (0, .ref o)]) hx hb dX5_fits_74 rfl hl (by decide) rfl (fun ls hl => ?_)
        refine lv_iconst (v := 0) hx hb dX5_fits_75 rfl ?_
        refine lv_istore_n (lv' := [(2, .int 0), (1, .int 0), (0, .ref o)]) hx hb dX5_fits_76 rfl hl (by decide) rfl (fun ls hl => ?_)
        obtain ⟨nn, hf⟩ := hf
        exact B77 nn 0 0 σ_70 _ _ _ M (lv_sub hl [2, 1, 0] rfl) hf
      · have hf := hff c1
        refine lv_aload_n hx hb dX5_fits_47 rfl (lv_at hl 0 rfl) ?_
        refine lv_iload_n hx hb dX5_fits_48 rfl (lv_at hl 1 rfl) ?_
        refine hm_ci C M hl.1 (As := [.int v1_39]) (rest := []) (hk_octet l D dA o b hB v1_39 σ39 hf) (n := 1) q2520 q2522 qs102 q140 q2523 (by decide +kernel) rfl ⟨Nat.le_of_ble_eq_true rfl, Nat.le_of_ble_eq_true rfl⟩ rfl (Nat.le_of_ble_eq_true rfl) dX5_fits_49 (fun r_49 σ_49 H locs hf M => ?_)
        refine lv_aload_n hx hb dX5_fits_52 rfl (lv_at hl 0 rfl) ?_
        refine hm_get C M 6 (by decide) q2073 (v := .ref (b 6)) rfl dX5_fits_53 ?_
        refine lv_iconst (v := 0) hx hb dX5_fits_56 rfl ?_
        obtain ⟨g1, hf⟩ := hf
        refine hm_ald6 C M g1 dX5_fits_57 ?_
        obtain ⟨hft, hff⟩ := hf
        refine lv_icmp_le (tgt := 63) hx hb dX5_fits_58 (by decide) (fun c1 => ?_) (fun c1 => ?_)
        · have hf := hft c1
          refine lv_iinc (v := v1_39 + 2) (lv' := [(1, .int (v1_39 + 2)), (0, .ref o)]) hx hb dX5_fits_63 hl (k := 1) rfl rfl (by decide) rfl (fun ls hl => ?_)
          refine lv_goto (tgt := 39) hx hb dX5_fits_66 (by decide) ?_
          exact ih39 (v1_39 + 2) σ_49 _ _ _ M (lv_sub hl [1, 0] rfl) hf
        · have hf := hff c1
          refine lv_iconst (v := (-1)) hx hb dX5_fits_61 rfl ?_
          exact hret _ _ _ _ _ _ dX5_fits_62 M hf
  refine lv_aload_n hx hb dX5_fits_0 rfl (lv_at hl 0 rfl) ?_
  refine lv_iconst (v := 0) hx hb dX5_fits_1 rfl ?_
  refine hm_put0 C M q2067 dX5_fits_2 (fun H locs M => ?_)
  refine lv_aload_n hx hb dX5_fits_5 rfl (lv_at hl 0 rfl) ?_
  refine lv_sipush (v := 940) hx hb dX5_fits_6 rfl ?_
  refine hm_cv C M hl.1 (As := [.int 940]) (rest := []) (hk_taken l D dA o b hB 940 (hm_sI σ 0 0) hf) (n := 1) q2230 q2232 qs49 q140 q2233 (by decide +kernel) rfl ⟨Nat.le_of_ble_eq_true rfl, Nat.le_of_ble_eq_true rfl⟩ rfl (Nat.le_of_ble_eq_true rfl) dX5_fits_9 (fun σ_9 H locs hf M => ?_)
  refine lv_aload_n hx hb dX5_fits_12 rfl (lv_at hl 0 rfl) ?_
  refine hm_get C M 3 (by decide) q2070 (v := .int (hm_gI σ_9 3)) rfl dX5_fits_13 ?_
  refine lv_iconst (v := 2) hx hb dX5_fits_16 rfl ?_
  refine lv_bipush (v := 12) hx hb dX5_fits_17 rfl ?_
  refine hm_csi C M hl.1 (As := [.int (hm_gI σ_9 3), .int 2, .int 12]) (rest := []) (hk_isIn l D dA o b hB (hm_gI σ_9 3) 2 12 σ_9 hf) (n := 3) q2280 q2281 q140 q2282 (by decide +kernel) rfl ⟨Nat.le_of_ble_eq_true rfl, Nat.le_of_ble_eq_true rfl⟩ rfl (Nat.le_of_ble_eq_true rfl) dX5_fits_19 (fun r_19 σ_19 H locs hf M => ?_)
  obtain ⟨hft, hff⟩ := hf
  refine lv_if_eq (tgt := 35) hx hb dX5_fits_22 (by decide) (fun c1 => ?_) (fun c1 => ?_)
  · have hf := hft c1
    refine lv_iconst (v := (-1)) hx hb dX5_fits_35 rfl ?_
    exact hret _ _ _ _ _ _ dX5_fits_36 M hf
  · have hf := hff c1
    refine lv_aload_n hx hb dX5_fits_25 rfl (lv_at hl 0 rfl) ?_
    refine hm_get C M 3 (by decide) q2070 (v := .int (hm_gI σ_19 3)) rfl dX5_fits_26 ?_
    refine lv_iconst (v := 2) hx hb dX5_fits_29 rfl ?_
    refine lv_irem hx hb dX5_fits_30 (by decide) ?_
    refine lv_iconst (v := 1) hx hb dX5_fits_31 rfl ?_
    obtain ⟨hft, hff⟩ := hf
    refine lv_icmp_ne (tgt := 37) hx hb dX5_fits_32 (by decide) (fun c1 => ?_) (fun c1 => ?_)
    · have hf := hft c1
      refine lv_iconst (v := 0) hx hb dX5_fits_37 rfl ?_
      refine lv_istore_n (lv' := [(1, .int 0), (0, .ref o)]) hx hb dX5_fits_38 rfl hl (by decide) rfl (fun ls hl => ?_)
      obtain ⟨nn, hf⟩ := hf
      exact B39 nn 0 σ_19 _ _ _ M (lv_sub hl [1, 0] rfl) hf
    · have hf := hff c1
      refine lv_iconst (v := (-1)) hx hb dX5_fits_35 rfl ?_
      exact hret _ _ _ _ _ _ dX5_fits_36 M hf
def hw_ask  (σ : hm_S) (Q : Int32 → hm_S → Prop) : Prop := ((hm_gI (hm_sI σ 0 0) 35) = 0 → Q (-1) (hm_sI σ 0 0)) ∧ (¬ (hm_gI (hm_sI σ 0 0) 35) = 0 → Q (hm_gI (hm_sI σ 0 0) 34) (hm_sI σ 0 0))
set_option maxHeartbeats 4000000 in
set_option maxRecDepth 100000 in
theorem hk_ask (l : Launch) (D : va_G) (dA : Nat → ClassId) (o : Nat) (b : Nat → Nat) (hB : hm_D dA o b)  (σ : hm_S) {Q : Int32 → hm_S → Prop} (hf : hw_ask  σ Q) : Met l yX5_ask (ws_ yX5_ask cX5_ask 1 (some .int)) (hb_R 0 0) (va_Pc [.ref o] (hm_U D dA o b σ)) (va_Qi Q (hm_U D dA o b) (hm_A o b)) 0 0 (hm_A o b) := by
  refine hm_Mi hB (LV := [(0, .ref o)]) (by decide) rfl (Nat.le_of_ble_eq_true rfl) (fun p e s m args below meth c ls QQ C M hl hret => ?_)
  have hx := C.1.1
  have hb := C.1.2.1
  refine lv_aload_n hx hb dX5_ask_0 rfl (lv_at hl 0 rfl) ?_
  refine lv_iconst (v := 0) hx hb dX5_ask_1 rfl ?_
  refine hm_put0 C M q2067 dX5_ask_2 (fun H locs M => ?_)
  refine lv_aload_n hx hb dX5_ask_5 rfl (lv_at hl 0 rfl) ?_
  refine hm_get C M 35 (by decide) q2102 (v := .int (hm_gI (hm_sI σ 0 0) 35)) rfl dX5_ask_6 ?_
  obtain ⟨hft, hff⟩ := hf
  refine lv_if_eq (tgt := 19) hx hb dX5_ask_9 (by decide) (fun c1 => ?_) (fun c1 => ?_)
  · have hf := hft c1
    refine lv_iconst (v := (-1)) hx hb dX5_ask_19 rfl ?_
    exact hret _ _ _ _ _ _ dX5_ask_20 M hf
  · have hf := hff c1
    refine lv_aload_n hx hb dX5_ask_12 rfl (lv_at hl 0 rfl) ?_
    refine hm_get C M 34 (by decide) q2101 (v := .int (hm_gI (hm_sI σ 0 0) 34)) rfl dX5_ask_13 ?_
    refine lv_goto (tgt := 20) hx hb dX5_ask_16 (by decide) ?_
    exact hret _ _ _ _ _ _ dX5_ask_20 M hf
def hw_crown_b69 (k29 : Int32 → Int32 → Int32 → Int32 → hm_S → Prop) (v1_69 : Int32) (v2_69 : Int32) (v4_69 : Int32) (t0_69 : Int32) (σ69 : hm_S) (Q : Int32 → hm_S → Prop) : Prop := (t0_69 = 0 → k29 v1_69 v2_69 t0_69 (v4_69 + 1) σ69) ∧ (¬ t0_69 = 0 → hw_year  σ69 (fun σ_75 => (k29 v1_69 v2_69 t0_69 (v4_69 + 1) σ_75)))
def hw_crown_b68 (k29 : Int32 → Int32 → Int32 → Int32 → hm_S → Prop) (v1_68 : Int32) (v2_68 : Int32) (v4_68 : Int32) (σ68 : hm_S) (Q : Int32 → hm_S → Prop) : Prop := hw_crown_b69 k29 v1_68 v2_68 v4_68 0 σ68 Q
def hw_crown_b47 (k29 : Int32 → Int32 → Int32 → Int32 → hm_S → Prop) (v1_47 : Int32) (v2_47 : Int32) (v4_47 : Int32) (σ47 : hm_S) (Q : Int32 → hm_S → Prop) : Prop := (0 ≤ v2_47 → hw_crown_b68 k29 v1_47 v2_47 v4_47 σ47 Q) ∧ (¬ 0 ≤ v2_47 → vp_in 100 346 ∧ ((199 ≤ (hm_gA σ47 6 100) → hw_crown_b68 k29 v1_47 v2_47 v4_47 σ47 Q) ∧ (¬ 199 ≤ (hm_gA σ47 6 100) → hw_crown_b69 k29 v1_47 v2_47 v4_47 1 σ47 Q)))
def hw_crown_b29 : Nat → Int32 → Int32 → Int32 → Int32 → hm_S → (Int32 → hm_S → Prop) → Prop
  | 0, _, _, _, _, _, _ => False
  | n29 + 1, v1_29, v2_29, v3_29, v4_29, σ29, Q => (v3_29 = 0 → hw_back  σ29 (fun σ_85 => (Q v2_29 σ_85))) ∧ (¬ v3_29 = 0 → vp_in 102 346 ∧ (((hm_gA σ29 6 102) < v1_29 → hw_crown_b47 (fun (u0 : Int32) (u1 : Int32) (u2 : Int32) (u3 : Int32) (τ : hm_S) => hw_crown_b29  n29 u0 u1 u2 u3 τ Q) v1_29 v2_29 v4_29 σ29 Q) ∧ (¬ (hm_gA σ29 6 102) < v1_29 → hw_crown_b47 (fun (u0 : Int32) (u1 : Int32) (u2 : Int32) (u3 : Int32) (τ : hm_S) => hw_crown_b29  n29 u0 u1 u2 u3 τ Q) v1_29 v4_29 v4_29 σ29 Q)))
def hw_crown (a1 : Int32) (σ : hm_S) (Q : Int32 → hm_S → Prop) : Prop := hw_isIn a1 0 999 (hm_sI σ 0 0) (fun r_10 σ_10 => ((¬ r_10 = 0 → hw_tries  σ_10 (fun σ_19 => (∃ n, hw_crown_b29  n a1 (-1) 1 0 σ_19 Q))) ∧ (r_10 = 0 → Q (-1) σ_10)))
set_option maxHeartbeats 4000000 in
set_option maxRecDepth 100000 in
theorem hk_crown (l : Launch) (D : va_G) (dA : Nat → ClassId) (o : Nat) (b : Nat → Nat) (hB : hm_D dA o b) (a1 : Int32) (σ : hm_S) {Q : Int32 → hm_S → Prop} (hf : hw_crown a1 σ Q) : Met l yX5_crown (ws_ yX5_crown cX5_crown 5 (some .int)) (hb_R 8 185) (va_Pc [.ref o, .int a1] (hm_U D dA o b σ)) (va_Qi Q (hm_U D dA o b) (hm_A o b)) 0 0 (hm_A o b) := by
  refine hm_Mi hB (LV := [(0, .ref o), (1, .int a1)]) (by decide) rfl (Nat.le_of_ble_eq_true rfl) (fun p e s m args below meth c ls QQ C M hl hret => ?_)
  have hx := C.1.1
  have hb := C.1.2.1
  have B29 : ∀ (n29 : Nat) (v1_29 : Int32) (v2_29 : Int32) (v3_29 : Int32) (v4_29 : Int32) (σ29 : hm_S) (H : Heap) (locs : List Loc) (ls : Array Slot), hm_M D dA o b s.heap σ29 H locs → lv_has ls 5 [(0, .ref o), (1, .int v1_29), (2, .int v2_29), (3, .int v3_29), (4, .int v4_29)] → hw_crown_b29  n29 v1_29 v2_29 v3_29 v4_29 σ29 Q → W p l e (hb_R 8 185) s m args below meth c H locs 0 0 QQ (F0 m 29 ls []) := by
    intro n29
    induction n29 with
    | zero => intro v1_29 v2_29 v3_29 v4_29 σ29 H locs ls M hl hf; exact hf.elim
    | succ n29 ih29 =>
      have B69 : ∀ (v1_69 : Int32) (v2_69 : Int32) (v4_69 : Int32) (t0_69 : Int32) (σ69 : hm_S) (H : Heap) (locs : List Loc) (ls : Array Slot), hm_M D dA o b s.heap σ69 H locs → lv_has ls 5 [(0, .ref o), (1, .int v1_69), (2, .int v2_69), (4, .int v4_69)] → hw_crown_b69 (fun (u0 : Int32) (u1 : Int32) (u2 : Int32) (u3 : Int32) (τ : hm_S) => hw_crown_b29  n29 u0 u1 u2 u3 τ Q) v1_69 v2_69 v4_69 t0_69 σ69 Q → W p l e (hb_R 8 185) s m args below meth c H locs 0 0 QQ (F0 m 69 ls [.int t0_69]) := by
        intro v1_69 v2_69 v4_69 t0_69 σ69 H locs ls M hl hf
        refine lv_istore_n (lv' := [(3, .int t0_69), (0, .ref o), (1, .int v1_69), (2, .int v2_69), (4, .int v4_69)]) hx hb dX5_crown_69 rfl hl (by decide) rfl (fun ls hl => ?_)
        refine lv_iload_n hx hb dX5_crown_70 rfl (lv_at hl 0 rfl) ?_
        obtain ⟨hft, hff⟩ := hf
        refine lv_if_eq (tgt := 78) hx hb dX5_crown_71 (by decide) (fun c1 => ?_) (fun c1 => ?_)
        · have hf := hft c1
          refine lv_iinc (v := v4_69 + 1) (lv' := [(4, .int (v4_69 + 1)), (3, .int t0_69), (0, .ref o), (1, .int v1_69), (2, .int v2_69)]) hx hb dX5_crown_78 hl (k := 4) rfl rfl (by decide) rfl (fun ls hl => ?_)
          refine lv_goto (tgt := 29) hx hb dX5_crown_81 (by decide) ?_
          exact ih29 v1_69 v2_69 t0_69 (v4_69 + 1) σ69 _ _ _ M (lv_sub hl [2, 3, 4, 1, 0] rfl) hf
        · have hf := hff c1
          refine lv_aload_n hx hb dX5_crown_74 rfl (lv_at hl 1 rfl) ?_
          refine hm_cv C M hl.1 (As := []) (rest := []) (hk_year l D dA o b hB  σ69 hf) (n := 0) q2488 q2490 qs97 q140 q2491 (by decide +kernel) rfl ⟨Nat.le_of_ble_eq_true rfl, Nat.le_of_ble_eq_true rfl⟩ rfl (Nat.le_of_ble_eq_true rfl) dX5_crown_75 (fun σ_75 H locs hf M => ?_)
          refine lv_iinc (v := v4_69 + 1) (lv' := [(4, .int (v4_69 + 1)), (3, .int t0_69), (0, .ref o), (1, .int v1_69), (2, .int v2_69)]) hx hb dX5_crown_78 hl (k := 4) rfl rfl (by decide) rfl (fun ls hl => ?_)
          refine lv_goto (tgt := 29) hx hb dX5_crown_81 (by decide) ?_
          exact ih29 v1_69 v2_69 t0_69 (v4_69 + 1) σ_75 _ _ _ M (lv_sub hl [2, 3, 4, 1, 0] rfl) hf
      have B68 : ∀ (v1_68 : Int32) (v2_68 : Int32) (v4_68 : Int32) (σ68 : hm_S) (H : Heap) (locs : List Loc) (ls : Array Slot), hm_M D dA o b s.heap σ68 H locs → lv_has ls 5 [(0, .ref o), (1, .int v1_68), (2, .int v2_68), (4, .int v4_68)] → hw_crown_b68 (fun (u0 : Int32) (u1 : Int32) (u2 : Int32) (u3 : Int32) (τ : hm_S) => hw_crown_b29  n29 u0 u1 u2 u3 τ Q) v1_68 v2_68 v4_68 σ68 Q → W p l e (hb_R 8 185) s m args below meth c H locs 0 0 QQ (F0 m 68 ls []) := by
        intro v1_68 v2_68 v4_68 σ68 H locs ls M hl hf
        refine lv_iconst (v := 0) hx hb dX5_crown_68 rfl ?_
        exact B69 v1_68 v2_68 v4_68 0 σ68 _ _ _ M (lv_sub hl [0, 1, 2, 3] rfl) hf
      have B47 : ∀ (v1_47 : Int32) (v2_47 : Int32) (v4_47 : Int32) (σ47 : hm_S) (H : Heap) (locs : List Loc) (ls : Array Slot), hm_M D dA o b s.heap σ47 H locs → lv_has ls 5 [(0, .ref o), (1, .int v1_47), (2, .int v2_47), (4, .int v4_47)] → hw_crown_b47 (fun (u0 : Int32) (u1 : Int32) (u2 : Int32) (u3 : Int32) (τ : hm_S) => hw_crown_b29  n29 u0 u1 u2 u3 τ Q) v1_47 v2_47 v4_47 σ47 Q → W p l e (hb_R 8 185) s m args below meth c H locs 0 0 QQ (F0 m 47 ls []) := by
        intro v1_47 v2_47 v4_47 σ47 H locs ls M hl hf
        refine lv_iload_n hx hb dX5_crown_47 rfl (lv_at hl 2 rfl) ?_
        obtain ⟨hft, hff⟩ := hf
        refine lv_if_ge (tgt := 68) hx hb dX5_crown_48 (by decide) (fun c1 => ?_) (fun c1 => ?_)
        · have hf := hft c1
          exact B68 v1_47 v2_47 v4_47 σ47 _ _ _ M (lv_sub hl [0, 1, 2, 3] rfl) hf
        · have hf := hff c1
          refine lv_aload_n hx hb dX5_crown_51 rfl (lv_at hl 0 rfl) ?_
          refine hm_get C M 6 (by decide) q2073 (v := .ref (b 6)) rfl dX5_crown_52 ?_
          refine lv_bipush (v := 100) hx hb dX5_crown_55 rfl ?_
          obtain ⟨g1, hf⟩ := hf
          refine hm_ald6 C M g1 dX5_crown_57 ?_
          refine lv_sipush (v := 199) hx hb dX5_crown_58 rfl ?_
          obtain ⟨hft, hff⟩ := hf
          refine lv_icmp_ge (tgt := 68) hx hb dX5_crown_61 (by decide) (fun c1 => ?_) (fun c1 => ?_)
          · have hf := hft c1
            exact B68 v1_47 v2_47 v4_47 σ47 _ _ _ M (lv_sub hl [0, 1, 2, 3] rfl) hf
          · have hf := hff c1
            refine lv_iconst (v := 1) hx hb dX5_crown_64 rfl ?_
            refine lv_goto (tgt := 69) hx hb dX5_crown_65 (by decide) ?_
            exact B69 v1_47 v2_47 v4_47 1 σ47 _ _ _ M (lv_sub hl [0, 1, 2, 3] rfl) hf
      intro v1_29 v2_29 v3_29 v4_29 σ29 H locs ls M hl hf
      refine lv_iload_n hx hb dX5_crown_29 rfl (lv_at hl 3 rfl) ?_
      obtain ⟨hft, hff⟩ := hf
      refine lv_if_eq (tgt := 84) hx hb dX5_crown_30 (by decide) (fun c1 => ?_) (fun c1 => ?_)
      · have hf := hft c1
        refine lv_aload_n hx hb dX5_crown_84 rfl (lv_at hl 0 rfl) ?_
        refine hm_cv C M hl.1 (As := []) (rest := []) (hk_back l D dA o b hB  σ29 hf) (n := 0) q2508 q2510 qs100 q140 q2511 (by decide +kernel) rfl ⟨Nat.le_of_ble_eq_true rfl, Nat.le_of_ble_eq_true rfl⟩ rfl (Nat.le_of_ble_eq_true rfl) dX5_crown_85 (fun σ_85 H locs hf M => ?_)
        refine lv_iload_n hx hb dX5_crown_88 rfl (lv_at hl 2 rfl) ?_
        exact hret _ _ _ _ _ _ dX5_crown_89 M hf
      · have hf := hff c1
        refine lv_aload_n hx hb dX5_crown_33 rfl (lv_at hl 0 rfl) ?_
        refine hm_get C M 6 (by decide) q2073 (v := .ref (b 6)) rfl dX5_crown_34 ?_
        refine lv_bipush (v := 102) hx hb dX5_crown_37 rfl ?_
        obtain ⟨g1, hf⟩ := hf
        refine hm_ald6 C M g1 dX5_crown_39 ?_
        refine lv_iload_n hx hb dX5_crown_40 rfl (lv_at hl 1 rfl) ?_
        obtain ⟨hft, hff⟩ := hf
        refine lv_icmp_lt (tgt := 47) hx hb dX5_crown_41 (by decide) (fun c1 => ?_) (fun c1 => ?_)
        · have hf := hft c1
          exact B47 v1_29 v2_29 v4_29 σ29 _ _ _ M (lv_sub hl [0, 1, 2, 4] rfl) hf
        · have hf := hff c1
          refine lv_iload hx hb dX5_crown_44 (lv_at hl 4 rfl) ?_
          refine lv_istore_n (lv' := [(2, .int v4_29), (0, .ref o), (1, .int v1_29), (3, .int v3_29), (4, .int v4_29)]) hx hb dX5_crown_46 rfl hl (by decide) rfl (fun ls hl => ?_)
          exact B47 v1_29 v4_29 v4_29 σ29 _ _ _ M (lv_sub hl [1, 2, 0, 4] rfl) hf
  refine lv_aload_n hx hb dX5_crown_0 rfl (lv_at hl 0 rfl) ?_
  refine lv_iconst (v := 0) hx hb dX5_crown_1 rfl ?_
  refine hm_put0 C M q2067 dX5_crown_2 (fun H locs M => ?_)
  refine lv_iload_n hx hb dX5_crown_5 rfl (lv_at hl 1 rfl) ?_
  refine lv_iconst (v := 0) hx hb dX5_crown_6 rfl ?_
  refine lv_sipush (v := 999) hx hb dX5_crown_7 rfl ?_
  refine hm_csi C M hl.1 (As := [.int a1, .int 0, .int 999]) (rest := []) (hk_isIn l D dA o b hB a1 0 999 (hm_sI σ 0 0) hf) (n := 3) q2280 q2281 q140 q2282 (by decide +kernel) rfl ⟨Nat.le_of_ble_eq_true rfl, Nat.le_of_ble_eq_true rfl⟩ rfl (Nat.le_of_ble_eq_true rfl) dX5_crown_10 (fun r_10 σ_10 H locs hf M => ?_)
  obtain ⟨hft, hff⟩ := hf
  refine lv_if_ne (tgt := 18) hx hb dX5_crown_13 (by decide) (fun c1 => ?_) (fun c1 => ?_)
  · have hf := hft c1
    refine lv_aload_n hx hb dX5_crown_18 rfl (lv_at hl 0 rfl) ?_
    refine hm_cv C M hl.1 (As := []) (rest := []) (hk_tries l D dA o b hB  σ_10 hf) (n := 0) q2504 q2506 qs99 q140 q2507 (by decide +kernel) rfl ⟨Nat.le_of_ble_eq_true rfl, Nat.le_of_ble_eq_true rfl⟩ rfl (Nat.le_of_ble_eq_true rfl) dX5_crown_19 (fun σ_19 H locs hf M => ?_)
    refine lv_iconst (v := (-1)) hx hb dX5_crown_22 rfl ?_
    refine lv_istore_n (lv' := [(2, .int (-1)), (0, .ref o), (1, .int a1)]) hx hb dX5_crown_23 rfl hl (by decide) rfl (fun ls hl => ?_)
    refine lv_iconst (v := 1) hx hb dX5_crown_24 rfl ?_
    refine lv_istore_n (lv' := [(3, .int 1), (2, .int (-1)), (0, .ref o), (1, .int a1)]) hx hb dX5_crown_25 rfl hl (by decide) rfl (fun ls hl => ?_)
    refine lv_iconst (v := 0) hx hb dX5_crown_26 rfl ?_
    refine lv_istore (lv' := [(4, .int 0), (3, .int 1), (2, .int (-1)), (0, .ref o), (1, .int a1)]) hx hb dX5_crown_27 hl (by decide) rfl (fun ls hl => ?_)
    obtain ⟨nn, hf⟩ := hf
    exact B29 nn a1 (-1) 1 0 σ_19 _ _ _ M (lv_sub hl [3, 4, 2, 1, 0] rfl) hf
  · have hf := hff c1
    refine lv_iconst (v := (-1)) hx hb dX5_crown_16 rfl ?_
    exact hret _ _ _ _ _ _ dX5_crown_17 M hf
def hw_richestNow_b4 : Nat → Int32 → Int32 → hm_S → (Int32 → hm_S → Prop) → Prop
  | 0, _, _, _, _ => False
  | n4 + 1, v1_4, v2_4, σ4, Q => vp_in 0 346 ∧ (((hm_gA σ4 6 0) ≤ v2_4 → Q v1_4 σ4) ∧ (¬ (hm_gA σ4 6 0) ≤ v2_4 → (v1_4 < 0 → hw_richestNow_b4  n4 v2_4 (v2_4 + 1) σ4 Q) ∧ (¬ v1_4 < 0 → vp_in (105 + v2_4) 346 ∧ (vp_in (105 + v1_4) 346 ∧ (((hm_gA σ4 6 (105 + v2_4)) ≤ (hm_gA σ4 6 (105 + v1_4)) → hw_richestNow_b4  n4 v1_4 (v2_4 + 1) σ4 Q) ∧ (¬ (hm_gA σ4 6 (105 + v2_4)) ≤ (hm_gA σ4 6 (105 + v1_4)) → hw_richestNow_b4  n4 v2_4 (v2_4 + 1) σ4 Q))))))
def hw_richestNow  (σ : hm_S) (Q : Int32 → hm_S → Prop) : Prop := ∃ n, hw_richestNow_b4  n (-1) 0 σ Q
set_option maxHeartbeats 4000000 in
set_option maxRecDepth 100000 in
theorem hk_richestNow (l : Launch) (D : va_G) (dA : Nat → ClassId) (o : Nat) (b : Nat → Nat) (hB : hm_D dA o b)  (σ : hm_S) {Q : Int32 → hm_S → Prop} (hf : hw_richestNow  σ Q) : Met l yX5_richestNow (ws_ yX5_richestNow cX5_richestNow 3 (some .int)) (hb_R 0 0) (va_Pc [.ref o] (hm_U D dA o b σ)) (va_Qi Q (hm_U D dA o b) (hm_A o b)) 0 0 (hm_A o b) := by
  refine hm_Mi hB (LV := [(0, .ref o)]) (by decide) rfl (Nat.le_of_ble_eq_true rfl) (fun p e s m args below meth c ls QQ C M hl hret => ?_)
  have hx := C.1.1
  have hb := C.1.2.1
  have B4 : ∀ (n4 : Nat) (v1_4 : Int32) (v2_4 : Int32) (σ4 : hm_S) (H : Heap) (locs : List Loc) (ls : Array Slot), hm_M D dA o b s.heap σ4 H locs → lv_has ls 3 [(0, .ref o), (1, .int v1_4), (2, .int v2_4)] → hw_richestNow_b4  n4 v1_4 v2_4 σ4 Q → W p l e (hb_R 0 0) s m args below meth c H locs 0 0 QQ (F0 m 4 ls []) := by
    intro n4
    induction n4 with
    | zero => intro v1_4 v2_4 σ4 H locs ls M hl hf; exact hf.elim
    | succ n4 ih4 =>
      intro v1_4 v2_4 σ4 H locs ls M hl hf
      refine lv_iload_n hx hb dX5_richestNow_4 rfl (lv_at hl 2 rfl) ?_
      refine lv_aload_n hx hb dX5_richestNow_5 rfl (lv_at hl 0 rfl) ?_
      refine hm_get C M 6 (by decide) q2073 (v := .ref (b 6)) rfl dX5_richestNow_6 ?_
      refine lv_iconst (v := 0) hx hb dX5_richestNow_9 rfl ?_
      obtain ⟨g1, hf⟩ := hf
      refine hm_ald6 C M g1 dX5_richestNow_10 ?_
      obtain ⟨hft, hff⟩ := hf
      refine lv_icmp_ge (tgt := 47) hx hb dX5_richestNow_11 (by decide) (fun c1 => ?_) (fun c1 => ?_)
      · have hf := hft c1
        refine lv_iload_n hx hb dX5_richestNow_47 rfl (lv_at hl 1 rfl) ?_
        exact hret _ _ _ _ _ _ dX5_richestNow_48 M hf
      · have hf := hff c1
        refine lv_iload_n hx hb dX5_richestNow_14 rfl (lv_at hl 1 rfl) ?_
        obtain ⟨hft, hff⟩ := hf
        refine lv_if_lt (tgt := 39) hx hb dX5_richestNow_15 (by decide) (fun c1 => ?_) (fun c1 => ?_)
        · have hf := hft c1
          refine lv_iload_n hx hb dX5_richestNow_39 rfl (lv_at hl 2 rfl) ?_
          refine lv_istore_n (lv' := [(1, .int v2_4), (0, .ref o), (2, .int v2_4)]) hx hb dX5_richestNow_40 rfl hl (by decide) rfl (fun ls hl => ?_)
          refine lv_iinc (v := v2_4 + 1) (lv' := [(2, .int (v2_4 + 1)), (1, .int v2_4), (0, .ref o)]) hx hb dX5_richestNow_41 hl (k := 2) rfl rfl (by decide) rfl (fun ls hl => ?_)
          refine lv_goto (tgt := 4) hx hb dX5_richestNow_44 (by decide) ?_
          exact ih4 v2_4 (v2_4 + 1) σ4 _ _ _ M (lv_sub hl [2, 1, 0] rfl) hf
        · have hf := hff c1
          refine lv_aload_n hx hb dX5_richestNow_18 rfl (lv_at hl 0 rfl) ?_
          refine hm_get C M 6 (by decide) q2073 (v := .ref (b 6)) rfl dX5_richestNow_19 ?_
          refine lv_bipush (v := 105) hx hb dX5_richestNow_22 rfl ?_
          refine lv_iload_n hx hb dX5_richestNow_24 rfl (lv_at hl 2 rfl) ?_
          refine lv_iadd hx hb dX5_richestNow_25 ?_
          obtain ⟨g1, hf⟩ := hf
          refine hm_ald6 C M g1 dX5_richestNow_26 ?_
          refine lv_aload_n hx hb dX5_richestNow_27 rfl (lv_at hl 0 rfl) ?_
          refine hm_get C M 6 (by decide) q2073 (v := .ref (b 6)) rfl dX5_richestNow_28 ?_
          refine lv_bipush (v := 105) hx hb dX5_richestNow_31 rfl ?_
          refine lv_iload_n hx hb dX5_richestNow_33 rfl (lv_at hl 1 rfl) ?_
          refine lv_iadd hx hb dX5_richestNow_34 ?_
          obtain ⟨g1, hf⟩ := hf
          refine hm_ald6 C M g1 dX5_richestNow_35 ?_
          obtain ⟨hft, hff⟩ := hf
          refine lv_icmp_le (tgt := 41) hx hb dX5_richestNow_36 (by decide) (fun c1 => ?_) (fun c1 => ?_)
          · have hf := hft c1
            refine lv_iinc (v := v2_4 + 1) (lv' := [(2, .int (v2_4 + 1)), (0, .ref o), (1, .int v1_4)]) hx hb dX5_richestNow_41 hl (k := 2) rfl rfl (by decide) rfl (fun ls hl => ?_)
            refine lv_goto (tgt := 4) hx hb dX5_richestNow_44 (by decide) ?_
            exact ih4 v1_4 (v2_4 + 1) σ4 _ _ _ M (lv_sub hl [1, 2, 0] rfl) hf
          · have hf := hff c1
            refine lv_iload_n hx hb dX5_richestNow_39 rfl (lv_at hl 2 rfl) ?_
            refine lv_istore_n (lv' := [(1, .int v2_4), (0, .ref o), (2, .int v2_4)]) hx hb dX5_richestNow_40 rfl hl (by decide) rfl (fun ls hl => ?_)
            refine lv_iinc (v := v2_4 + 1) (lv' := [(2, .int (v2_4 + 1)), (1, .int v2_4), (0, .ref o)]) hx hb dX5_richestNow_41 hl (k := 2) rfl rfl (by decide) rfl (fun ls hl => ?_)
            refine lv_goto (tgt := 4) hx hb dX5_richestNow_44 (by decide) ?_
            exact ih4 v2_4 (v2_4 + 1) σ4 _ _ _ M (lv_sub hl [2, 1, 0] rfl) hf
  refine lv_iconst (v := (-1)) hx hb dX5_richestNow_0 rfl ?_
  refine lv_istore_n (lv' := [(1, .int (-1)), (0, .ref o)]) hx hb dX5_richestNow_1 rfl hl (by decide) rfl (fun ls hl => ?_)
  refine lv_iconst (v := 0) hx hb dX5_richestNow_2 rfl ?_
  refine lv_istore_n (lv' := [(2, .int 0), (1, .int (-1)), (0, .ref o)]) hx hb dX5_richestNow_3 rfl hl (by decide) rfl (fun ls hl => ?_)
  obtain ⟨nn, hf⟩ := hf
  exact B4 nn (-1) 0 σ _ _ _ M (lv_sub hl [2, 1, 0] rfl) hf
def hw_richest  (σ : hm_S) (Q : Int32 → hm_S → Prop) : Prop := hw_richestNow  (hm_sI σ 0 0) (fun r_6 σ_6 => (Q r_6 σ_6))
set_option maxHeartbeats 4000000 in
set_option maxRecDepth 100000 in
theorem hk_richest (l : Launch) (D : va_G) (dA : Nat → ClassId) (o : Nat) (b : Nat → Nat) (hB : hm_D dA o b)  (σ : hm_S) {Q : Int32 → hm_S → Prop} (hf : hw_richest  σ Q) : Met l yX5_richest (ws_ yX5_richest cX5_richest 1 (some .int)) (hb_R 1 22) (va_Pc [.ref o] (hm_U D dA o b σ)) (va_Qi Q (hm_U D dA o b) (hm_A o b)) 0 0 (hm_A o b) := by
  refine hm_Mi hB (LV := [(0, .ref o)]) (by decide) rfl (Nat.le_of_ble_eq_true rfl) (fun p e s m args below meth c ls QQ C M hl hret => ?_)
  have hx := C.1.1
  have hb := C.1.2.1
  refine lv_aload_n hx hb dX5_richest_0 rfl (lv_at hl 0 rfl) ?_
  refine lv_iconst (v := 0) hx hb dX5_richest_1 rfl ?_
  refine hm_put0 C M q2067 dX5_richest_2 (fun H locs M => ?_)
  refine lv_aload_n hx hb dX5_richest_5 rfl (lv_at hl 0 rfl) ?_
  refine hm_ci C M hl.1 (As := []) (rest := []) (hk_richestNow l D dA o b hB  (hm_sI σ 0 0) hf) (n := 0) q2584 q2586 qs106 q140 q2587 (by decide +kernel) rfl ⟨Nat.le_of_ble_eq_true rfl, Nat.le_of_ble_eq_true rfl⟩ rfl (Nat.le_of_ble_eq_true rfl) dX5_richest_6 (fun r_6 σ_6 H locs hf M => ?_)
  exact hret _ _ _ _ _ _ dX5_richest_9 M hf
def hw_eldest_b9 : Nat → Int32 → Int32 → hm_S → (Int32 → hm_S → Prop) → Prop
  | 0, _, _, _, _ => False
  | n9 + 1, v1_9, v2_9, σ9, Q => vp_in 0 346 ∧ (((hm_gA σ9 6 0) ≤ v2_9 → Q v1_9 σ9) ∧ (¬ (hm_gA σ9 6 0) ≤ v2_9 → hw_isLiving v2_9 σ9 (fun r_21 σ_21 => ((r_21 = 0 → hw_eldest_b9  n9 v1_9 (v2_9 + 1) σ_21 Q) ∧ (¬ r_21 = 0 → (v1_9 < 0 → hw_eldest_b9  n9 v2_9 (v2_9 + 1) σ_21 Q) ∧ (¬ v1_9 < 0 → vp_in (3 + v2_9) 346 ∧ (vp_in (3 + v1_9) 346 ∧ (((hm_gA σ_21 6 (3 + v1_9)) ≤ (hm_gA σ_21 6 (3 + v2_9)) → hw_eldest_b9  n9 v1_9 (v2_9 + 1) σ_21 Q) ∧ (¬ (hm_gA σ_21 6 (3 + v1_9)) ≤ (hm_gA σ_21 6 (3 + v2_9)) → hw_eldest_b9  n9 v2_9 (v2_9 + 1) σ_21 Q)))))))))
def hw_eldest  (σ : hm_S) (Q : Int32 → hm_S → Prop) : Prop := ∃ n, hw_eldest_b9  n (-1) 0 (hm_sI σ 0 0) Q
set_option maxHeartbeats 4000000 in
set_option maxRecDepth 100000 in
theorem hk_eldest (l : Launch) (D : va_G) (dA : Nat → ClassId) (o : Nat) (b : Nat → Nat) (hB : hm_D dA o b)  (σ : hm_S) {Q : Int32 → hm_S → Prop} (hf : hw_eldest  σ Q) : Met l yX5_eldest (ws_ yX5_eldest cX5_eldest 3 (some .int)) (hb_R 2 42) (va_Pc [.ref o] (hm_U D dA o b σ)) (va_Qi Q (hm_U D dA o b) (hm_A o b)) 0 0 (hm_A o b) := by
  refine hm_Mi hB (LV := [(0, .ref o)]) (by decide) rfl (Nat.le_of_ble_eq_true rfl) (fun p e s m args below meth c ls QQ C M hl hret => ?_)
  have hx := C.1.1
  have hb := C.1.2.1
  have B9 : ∀ (n9 : Nat) (v1_9 : Int32) (v2_9 : Int32) (σ9 : hm_S) (H : Heap) (locs : List Loc) (ls : Array Slot), hm_M D dA o b s.heap σ9 H locs → lv_has ls 3 [(0, .ref o), (1, .int v1_9), (2, .int v2_9)] → hw_eldest_b9  n9 v1_9 v2_9 σ9 Q → W p l e (hb_R 2 42) s m args below meth c H locs 0 0 QQ (F0 m 9 ls []) := by
    intro n9
    induction n9 with
    | zero => intro v1_9 v2_9 σ9 H locs ls M hl hf; exact hf.elim
    | succ n9 ih9 =>
      intro v1_9 v2_9 σ9 H locs ls M hl hf
      refine lv_iload_n hx hb dX5_eldest_9 rfl (lv_at hl 2 rfl) ?_
      refine lv_aload_n hx hb dX5_eldest_10 rfl (lv_at hl 0 rfl) ?_
      refine hm_get C M 6 (by decide) q2073 (v := .ref (b 6)) rfl dX5_eldest_11 ?_
      refine lv_iconst (v := 0) hx hb dX5_eldest_14 rfl ?_
      obtain ⟨g1, hf⟩ := hf
      refine hm_ald6 C M g1 dX5_eldest_15 ?_
      obtain ⟨hft, hff⟩ := hf
      refine lv_icmp_ge (tgt := 58) hx hb dX5_eldest_16 (by decide) (fun c1 => ?_) (fun c1 => ?_)
      · have hf := hft c1
        refine lv_iload_n hx hb dX5_eldest_58 rfl (lv_at hl 1 rfl) ?_
        exact hret _ _ _ _ _ _ dX5_eldest_59 M hf
      · have hf := hff c1
        refine lv_aload_n hx hb dX5_eldest_19 rfl (lv_at hl 0 rfl) ?_
        refine lv_iload_n hx hb dX5_eldest_20 rfl (lv_at hl 2 rfl) ?_
        refine hm_ci C M hl.1 (As := [.int v2_9]) (rest := []) (hk_isLiving l D dA o b hB v2_9 σ9 hf) (n := 1) q2341 q2343 qs71 q140 q2344 (by decide +kernel) rfl ⟨Nat.le_of_ble_eq_true rfl, Nat.le_of_ble_eq_true rfl⟩ rfl (Nat.le_of_ble_eq_true rfl) dX5_eldest_21 (fun r_21 σ_21 H locs hf M => ?_)
        obtain ⟨hft, hff⟩ := hf
        refine lv_if_eq (tgt := 52) hx hb dX5_eldest_24 (by decide) (fun c1 => ?_) (fun c1 => ?_)
        · have hf := hft c1
          refine lv_iinc (v := v2_9 + 1) (lv' := [(2, .int (v2_9 + 1)), (0, .ref o), (1, .int v1_9)]) hx hb dX5_eldest_52 hl (k := 2) rfl rfl (by decide) rfl (fun ls hl => ?_)
          refine lv_goto (tgt := 9) hx hb dX5_eldest_55 (by decide) ?_
          exact ih9 v1_9 (v2_9 + 1) σ_21 _ _ _ M (lv_sub hl [1, 2, 0] rfl) hf
        · have hf := hff c1
          refine lv_iload_n hx hb dX5_eldest_27 rfl (lv_at hl 1 rfl) ?_
          obtain ⟨hft, hff⟩ := hf
          refine lv_if_lt (tgt := 50) hx hb dX5_eldest_28 (by decide) (fun c1 => ?_) (fun c1 => ?_)
          · have hf := hft c1
            refine lv_iload_n hx hb dX5_eldest_50 rfl (lv_at hl 2 rfl) ?_
            refine lv_istore_n (lv' := [(1, .int v2_9), (0, .ref o), (2, .int v2_9)]) hx hb dX5_eldest_51 rfl hl (by decide) rfl (fun ls hl => ?_)
            refine lv_iinc (v := v2_9 + 1) (lv' := [(2, .int (v2_9 + 1)), (1, .int v2_9), (0, .ref o)]) hx hb dX5_eldest_52 hl (k := 2) rfl rfl (by decide) rfl (fun ls hl => ?_)
            refine lv_goto (tgt := 9) hx hb dX5_eldest_55 (by decide) ?_
            exact ih9 v2_9 (v2_9 + 1) σ_21 _ _ _ M (lv_sub hl [2, 1, 0] rfl) hf
          · have hf := hff c1
            refine lv_aload_n hx hb dX5_eldest_31 rfl (lv_at hl 0 rfl) ?_
            refine hm_get C M 6 (by decide) q2073 (v := .ref (b 6)) rfl dX5_eldest_32 ?_
            refine lv_iconst (v := 3) hx hb dX5_eldest_35 rfl ?_
            refine lv_iload_n hx hb dX5_eldest_36 rfl (lv_at hl 2 rfl) ?_
            refine lv_iadd hx hb dX5_eldest_37 ?_
            obtain ⟨g1, hf⟩ := hf
            refine hm_ald6 C M g1 dX5_eldest_38 ?_
            refine lv_aload_n hx hb dX5_eldest_39 rfl (lv_at hl 0 rfl) ?_
            refine hm_get C M 6 (by decide) q2073 (v := .ref (b 6)) rfl dX5_eldest_40 ?_
            refine lv_iconst (v := 3) hx hb dX5_eldest_43 rfl ?_
            refine lv_iload_n hx hb dX5_eldest_44 rfl (lv_at hl 1 rfl) ?_
            refine lv_iadd hx hb dX5_eldest_45 ?_
            obtain ⟨g1, hf⟩ := hf
            refine hm_ald6 C M g1 dX5_eldest_46 ?_
            obtain ⟨hft, hff⟩ := hf
            refine lv_icmp_ge (tgt := 52) hx hb dX5_eldest_47 (by decide) (fun c1 => ?_) (fun c1 => ?_)
            · have hf := hft c1
              refine lv_iinc (v := v2_9 + 1) (lv' := [(2, .int (v2_9 + 1)), (0, .ref o), (1, .int v1_9)]) hx hb dX5_eldest_52 hl (k := 2) rfl rfl (by decide) rfl (fun ls hl => ?_)
              refine lv_goto (tgt := 9) hx hb dX5_eldest_55 (by decide) ?_
              exact ih9 v1_9 (v2_9 + 1) σ_21 _ _ _ M (lv_sub hl [1, 2, 0] rfl) hf
            · have hf := hff c1
              refine lv_iload_n hx hb dX5_eldest_50 rfl (lv_at hl 2 rfl) ?_
              refine lv_istore_n (lv' := [(1, .int v2_9), (0, .ref o), (2, .int v2_9)]) hx hb dX5_eldest_51 rfl hl (by decide) rfl (fun ls hl => ?_)
              refine lv_iinc (v := v2_9 + 1) (lv' := [(2, .int (v2_9 + 1)), (1, .int v2_9), (0, .ref o)]) hx hb dX5_eldest_52 hl (k := 2) rfl rfl (by decide) rfl (fun ls hl => ?_)
              refine lv_goto (tgt := 9) hx hb dX5_eldest_55 (by decide) ?_
              exact ih9 v2_9 (v2_9 + 1) σ_21 _ _ _ M (lv_sub hl [2, 1, 0] rfl) hf
  refine lv_aload_n hx hb dX5_eldest_0 rfl (lv_at hl 0 rfl) ?_
  refine lv_iconst (v := 0) hx hb dX5_eldest_1 rfl ?_
  refine hm_put0 C M q2067 dX5_eldest_2 (fun H locs M => ?_)
  refine lv_iconst (v := (-1)) hx hb dX5_eldest_5 rfl ?_
  refine lv_istore_n (lv' := [(1, .int (-1)), (0, .ref o)]) hx hb dX5_eldest_6 rfl hl (by decide) rfl (fun ls hl => ?_)
  refine lv_iconst (v := 0) hx hb dX5_eldest_7 rfl ?_
  refine lv_istore_n (lv' := [(2, .int 0), (1, .int (-1)), (0, .ref o)]) hx hb dX5_eldest_8 rfl hl (by decide) rfl (fun ls hl => ?_)
  obtain ⟨nn, hf⟩ := hf
  exact B9 nn (-1) 0 (hm_sI σ 0 0) _ _ _ M (lv_sub hl [2, 1, 0] rfl) hf
def hw_mean_b43 : Nat → Int32 → Int32 → Int32 → hm_S → (Int32 → hm_S → Prop) → Prop
  | 0, _, _, _, _, _ => False
  | n43 + 1, v1_43, v2_43, v3_43, σ43, Q => (v3_43 = 0 → (¬ v1_43 = 0 → hw_living  σ43 (fun r_72 σ_72 => (hw_bits r_72 σ_72 (fun r_75 σ_75 => (¬ v2_43 = 0 ∧ (Q (r_75 / v2_43) σ_75)))))) ∧ (v1_43 = 0 → hw_coinsOfAll  σ43 (fun r_65 σ_65 => (¬ v2_43 = 0 ∧ (Q (r_65 / v2_43) σ_65))))) ∧ (¬ v3_43 = 0 → ¬ v3_43 = 0 ∧ (hw_mean_b43  n43 v1_43 v3_43 (v2_43 - v2_43 / v3_43 * v3_43) σ43 Q))
def hw_mean_b22 (v1_22 : Int32) (t1_22 : Int32) (σ22 : hm_S) (Q : Int32 → hm_S → Prop) : Prop := hw_throwsIf t1_22 σ22 (fun r_22 σ_22 => ((r_22 = 0 → hw_living  σ_22 (fun r_31 σ_31 => (hw_bits r_31 σ_31 (fun r_34 σ_34 => (hw_coinsOfAll  σ_34 (fun r_39 σ_39 => (∃ n, hw_mean_b43  n v1_22 r_34 r_39 σ_39 Q))))))) ∧ (¬ r_22 = 0 → Q 0 σ_22)))
def hw_mean_b17 (v1_17 : Int32) (σ17 : hm_S) (Q : Int32 → hm_S → Prop) : Prop := hw_mean_b22  v1_17 1 σ17 Q
def hw_mean (a1 : Int32) (σ : hm_S) (Q : Int32 → hm_S → Prop) : Prop := hw_living  σ (fun r_2 σ_2 => ((r_2 = 0 → hw_mean_b17  a1 σ_2 Q) ∧ (¬ r_2 = 0 → hw_isIn a1 0 1 σ_2 (fun r_11 σ_11 => ((¬ r_11 = 0 → hw_mean_b22  a1 0 σ_11 Q) ∧ (r_11 = 0 → hw_mean_b17  a1 σ_11 Q))))))
set_option maxHeartbeats 4000000 in
set_option maxRecDepth 100000 in
theorem hk_mean (l : Launch) (D : va_G) (dA : Nat → ClassId) (o : Nat) (b : Nat → Nat) (hB : hm_D dA o b) (a1 : Int32) (σ : hm_S) {Q : Int32 → hm_S → Prop} (hf : hw_mean a1 σ Q) : Met l yX5_mean (ws_ yX5_mean cX5_mean 5 (some .int)) (hb_R 1 22) (va_Pc [.ref o, .int a1] (hm_U D dA o b σ)) (va_Qi Q (hm_U D dA o b) (hm_A o b)) 0 0 (hm_A o b) := by
  refine hm_Mi hB (LV := [(0, .ref o), (1, .int a1)]) (by decide) rfl (Nat.le_of_ble_eq_true rfl) (fun p e s m args below meth c ls QQ C M hl hret => ?_)
  have hx := C.1.1
  have hb := C.1.2.1
  have B43 : ∀ (n43 : Nat) (v1_43 : Int32) (v2_43 : Int32) (v3_43 : Int32) (σ43 : hm_S) (H : Heap) (locs : List Loc) (ls : Array Slot), hm_M D dA o b s.heap σ43 H locs → lv_has ls 5 [(0, .ref o), (1, .int v1_43), (2, .int v2_43), (3, .int v3_43)] → hw_mean_b43  n43 v1_43 v2_43 v3_43 σ43 Q → W p l e (hb_R 1 22) s m args below meth c H locs 0 0 QQ (F0 m 43 ls []) := by
    intro n43
    induction n43 with
    | zero => intro v1_43 v2_43 v3_43 σ43 H locs ls M hl hf; exact hf.elim
    | succ n43 ih43 =>
      intro v1_43 v2_43 v3_43 σ43 H locs ls M hl hf
      refine lv_iload_n hx hb dX5_mean_43 rfl (lv_at hl 3 rfl) ?_
      obtain ⟨hft, hff⟩ := hf
      refine lv_if_eq (tgt := 60) hx hb dX5_mean_44 (by decide) (fun c1 => ?_) (fun c1 => ?_)
      · have hf := hft c1
        refine lv_iload_n hx hb dX5_mean_60 rfl (lv_at hl 1 rfl) ?_
        obtain ⟨hft, hff⟩ := hf
        refine lv_if_ne (tgt := 71) hx hb dX5_mean_61 (by decide) (fun c1 => ?_) (fun c1 => ?_)
        · have hf := hft c1
          refine lv_aload_n hx hb dX5_mean_71 rfl (lv_at hl 0 rfl) ?_
          refine hm_ci C M hl.1 (As := []) (rest := []) (hk_living l D dA o b hB  σ43 hf) (n := 0) q2357 q2359 qs75 q140 q2360 (by decide +kernel) rfl ⟨Nat.le_of_ble_eq_true rfl, Nat.le_of_ble_eq_true rfl⟩ rfl (Nat.le_of_ble_eq_true rfl) dX5_mean_72 (fun r_72 σ_72 H locs hf M => ?_)
          refine hm_csi C M hl.1 (As := [.int r_72]) (rest := []) (hk_bits l D dA o b hB r_72 σ_72 hf) (n := 1) q2291 q2292 q140 q2293 (by decide +kernel) rfl ⟨Nat.le_of_ble_eq_true rfl, Nat.le_of_ble_eq_true rfl⟩ rfl (Nat.le_of_ble_eq_true rfl) dX5_mean_75 (fun r_75 σ_75 H locs hf M => ?_)
          refine lv_iload_n hx hb dX5_mean_78 rfl (lv_at hl 2 rfl) ?_
          obtain ⟨g1, hf⟩ := hf
          refine lv_idiv hx hb dX5_mean_79 g1 ?_
          exact hret _ _ _ _ _ _ dX5_mean_80 M hf
        · have hf := hff c1
          refine lv_aload_n hx hb dX5_mean_64 rfl (lv_at hl 0 rfl) ?_
          refine hm_ci C M hl.1 (As := []) (rest := []) (hk_coinsOfAll l D dA o b hB  σ43 hf) (n := 0) q2385 q2387 qs79 q140 q2388 (by decide +kernel) rfl ⟨Nat.le_of_ble_eq_true rfl, Nat.le_of_ble_eq_true rfl⟩ rfl (Nat.le_of_ble_eq_true rfl) dX5_mean_65 (fun r_65 σ_65 H locs hf M => ?_)
          refine lv_goto (tgt := 78) hx hb dX5_mean_68 (by decide) ?_
          refine lv_iload_n hx hb dX5_mean_78 rfl (lv_at hl 2 rfl) ?_
          obtain ⟨g1, hf⟩ := hf
          refine lv_idiv hx hb dX5_mean_79 g1 ?_
          exact hret _ _ _ _ _ _ dX5_mean_80 M hf
      · have hf := hff c1
        refine lv_iload_n hx hb dX5_mean_47 rfl (lv_at hl 2 rfl) ?_
        refine lv_iload_n hx hb dX5_mean_48 rfl (lv_at hl 3 rfl) ?_
        obtain ⟨g1, hf⟩ := hf
        refine lv_irem hx hb dX5_mean_49 g1 ?_
        refine lv_istore (lv' := [(4, .int (v2_43 - v2_43 / v3_43 * v3_43)), (0, .ref o), (1, .int v1_43), (2, .int v2_43), (3, .int v3_43)]) hx hb dX5_mean_50 hl (by decide) rfl (fun ls hl => ?_)
        refine lv_iload_n hx hb dX5_mean_52 rfl (lv_at hl 4 rfl) ?_
        refine lv_istore_n (lv' := [(2, .int v3_43), (4, .int (v2_43 - v2_43 / v3_43 * v3_43)), (0, .ref o), (1, .int v1_43), (3, .int v3_43)]) hx hb dX5_mean_53 rfl hl (by decide) rfl (fun ls hl => ?_)
        refine lv_iload hx hb dX5_mean_54 (lv_at hl 1 rfl) ?_
        refine lv_istore_n (lv' := [(3, .int (v2_43 - v2_43 / v3_43 * v3_43)), (2, .int v3_43), (4, .int (v2_43 - v2_43 / v3_43 * v3_43)), (0, .ref o), (1, .int v1_43)]) hx hb dX5_mean_56 rfl hl (by decide) rfl (fun ls hl => ?_)
        refine lv_goto (tgt := 43) hx hb dX5_mean_57 (by decide) ?_
        exact ih43 v1_43 v3_43 (v2_43 - v2_43 / v3_43 * v3_43) σ43 _ _ _ M (lv_sub hl [3, 4, 1, 0] rfl) hf
  have B22 : ∀ (v1_22 : Int32) (t1_22 : Int32) (σ22 : hm_S) (H : Heap) (locs : List Loc) (ls : Array Slot), hm_M D dA o b s.heap σ22 H locs → lv_has ls 5 [(0, .ref o), (1, .int v1_22)] → hw_mean_b22  v1_22 t1_22 σ22 Q → W p l e (hb_R 1 22) s m args below meth c H locs 0 0 QQ (F0 m 22 ls [.int t1_22, .ref o]) := by
    intro v1_22 t1_22 σ22 H locs ls M hl hf
    refine hm_ci C M hl.1 (As := [.int t1_22]) (rest := []) (hk_throwsIf l D dA o b hB t1_22 σ22 hf) (n := 1) q2337 q2339 qs70 q140 q2340 (by decide +kernel) rfl ⟨Nat.le_of_ble_eq_true rfl, Nat.le_of_ble_eq_true rfl⟩ rfl (Nat.le_of_ble_eq_true rfl) dX5_mean_22 (fun r_22 σ_22 H locs hf M => ?_)
    obtain ⟨hft, hff⟩ := hf
    refine lv_if_eq (tgt := 30) hx hb dX5_mean_25 (by decide) (fun c1 => ?_) (fun c1 => ?_)
    · have hf := hft c1
      refine lv_aload_n hx hb dX5_mean_30 rfl (lv_at hl 0 rfl) ?_
      refine hm_ci C M hl.1 (As := []) (rest := []) (hk_living l D dA o b hB  σ_22 hf) (n := 0) q2357 q2359 qs75 q140 q2360 (by decide +kernel) rfl ⟨Nat.le_of_ble_eq_true rfl, Nat.le_of_ble_eq_true rfl⟩ rfl (Nat.le_of_ble_eq_true rfl) dX5_mean_31 (fun r_31 σ_31 H locs hf M => ?_)
      refine hm_csi C M hl.1 (As := [.int r_31]) (rest := []) (hk_bits l D dA o b hB r_31 σ_31 hf) (n := 1) q2291 q2292 q140 q2293 (by decide +kernel) rfl ⟨Nat.le_of_ble_eq_true rfl, Nat.le_of_ble_eq_true rfl⟩ rfl (Nat.le_of_ble_eq_true rfl) dX5_mean_34 (fun r_34 σ_34 H locs hf M => ?_)
      refine lv_istore_n (lv' := [(2, .int r_34), (0, .ref o), (1, .int v1_22)]) hx hb dX5_mean_37 rfl hl (by decide) rfl (fun ls hl => ?_)
      refine lv_aload_n hx hb dX5_mean_38 rfl (lv_at hl 1 rfl) ?_
      refine hm_ci C M hl.1 (As := []) (rest := []) (hk_coinsOfAll l D dA o b hB  σ_34 hf) (n := 0) q2385 q2387 qs79 q140 q2388 (by decide +kernel) rfl ⟨Nat.le_of_ble_eq_true rfl, Nat.le_of_ble_eq_true rfl⟩ rfl (Nat.le_of_ble_eq_true rfl) dX5_mean_39 (fun r_39 σ_39 H locs hf M => ?_)
      refine lv_istore_n (lv' := [(3, .int r_39), (2, .int r_34), (0, .ref o), (1, .int v1_22)]) hx hb dX5_mean_42 rfl hl (by decide) rfl (fun ls hl => ?_)
      obtain ⟨nn, hf⟩ := hf
      exact B43 nn v1_22 r_34 r_39 σ_39 _ _ _ M (lv_sub hl [2, 3, 1, 0] rfl) hf
    · have hf := hff c1
      refine lv_iconst (v := 0) hx hb dX5_mean_28 rfl ?_
      exact hret _ _ _ _ _ _ dX5_mean_29 M hf
  have B17 : ∀ (v1_17 : Int32) (σ17 : hm_S) (H : Heap) (locs : List Loc) (ls : Array Slot), hm_M D dA o b s.heap σ17 H locs → lv_has ls 5 [(0, .ref o), (1, .int v1_17)] → hw_mean_b17  v1_17 σ17 Q → W p l e (hb_R 1 22) s m args below meth c H locs 0 0 QQ (F0 m 17 ls [.ref o]) := by
    intro v1_17 σ17 H locs ls M hl hf
    refine lv_iconst (v := 1) hx hb dX5_mean_17 rfl ?_
    refine lv_goto (tgt := 22) hx hb dX5_mean_18 (by decide) ?_
    exact B22 v1_17 1 σ17 _ _ _ M (lv_sub hl [0, 1] rfl) hf
  refine lv_aload_n hx hb dX5_mean_0 rfl (lv_at hl 0 rfl) ?_
  refine lv_aload_n hx hb dX5_mean_1 rfl (lv_at hl 0 rfl) ?_
  refine hm_ci C M hl.1 (As := []) (rest := [.ref o]) (hk_living l D dA o b hB  σ hf) (n := 0) q2357 q2359 qs75 q140 q2360 (by decide +kernel) rfl ⟨Nat.le_of_ble_eq_true rfl, Nat.le_of_ble_eq_true rfl⟩ rfl (Nat.le_of_ble_eq_true rfl) dX5_mean_2 (fun r_2 σ_2 H locs hf M => ?_)
  obtain ⟨hft, hff⟩ := hf
  refine lv_if_eq (tgt := 17) hx hb dX5_mean_5 (by decide) (fun c1 => ?_) (fun c1 => ?_)
  · have hf := hft c1
    exact B17 a1 σ_2 _ _ _ M (lv_sub hl [0, 1] rfl) hf
  · have hf := hff c1
    refine lv_iload_n hx hb dX5_mean_8 rfl (lv_at hl 1 rfl) ?_
    refine lv_iconst (v := 0) hx hb dX5_mean_9 rfl ?_
    refine lv_iconst (v := 1) hx hb dX5_mean_10 rfl ?_
    refine hm_csi C M hl.1 (As := [.int a1, .int 0, .int 1]) (rest := [.ref o]) (hk_isIn l D dA o b hB a1 0 1 σ_2 hf) (n := 3) q2280 q2281 q140 q2282 (by decide +kernel) rfl ⟨Nat.le_of_ble_eq_true rfl, Nat.le_of_ble_eq_true rfl⟩ rfl (Nat.le_of_ble_eq_true rfl) dX5_mean_11 (fun r_11 σ_11 H locs hf M => ?_)
    obtain ⟨hft, hff⟩ := hf
    refine lv_if_ne (tgt := 21) hx hb dX5_mean_14 (by decide) (fun c1 => ?_) (fun c1 => ?_)
    · have hf := hft c1
      refine lv_iconst (v := 0) hx hb dX5_mean_21 rfl ?_
      exact B22 a1 0 σ_11 _ _ _ M (lv_sub hl [0, 1] rfl) hf
    · have hf := hff c1
      exact B17 a1 σ_11 _ _ _ M (lv_sub hl [0, 1] rfl) hf
def hw_lays (a1 : Int32) (σ : hm_S) (Q : hm_S → Prop) : Prop := vp_in (hm_gI σ 37) 48 ∧ (Q (hm_sI (hm_sA σ 36 (hm_gI σ 37) (vp_nar .byte a1.toInt8.toInt32)) 37 ((hm_gI (hm_sA σ 36 (hm_gI σ 37) (vp_nar .byte a1.toInt8.toInt32)) 37) + 1)))
set_option maxHeartbeats 4000000 in
set_option maxRecDepth 100000 in
theorem hk_lays (l : Launch) (D : va_G) (dA : Nat → ClassId) (o : Nat) (b : Nat → Nat) (hB : hm_D dA o b) (a1 : Int32) (σ : hm_S) {Q : hm_S → Prop} (hf : hw_lays a1 σ Q) : Met l yX5_lays (ws_ yX5_lays cX5_lays 2 none) (hb_R 0 0) (va_Pc [.ref o, .int a1] (hm_U D dA o b σ)) (va_Qv Q (hm_U D dA o b) (hm_A o b)) 0 0 (hm_A o b) := by
  refine hm_Mv hB (LV := [(0, .ref o), (1, .int a1)]) (by decide) rfl (Nat.le_of_ble_eq_true rfl) (fun p e s m args below meth c ls QQ C M hl hret => ?_)
  have hx := C.1.1
  have hb := C.1.2.1
  refine lv_aload_n hx hb dX5_lays_0 rfl (lv_at hl 0 rfl) ?_
  refine hm_get C M 36 (by decide) q2103 (v := .ref (b 36)) rfl dX5_lays_1 ?_
  refine lv_aload_n hx hb dX5_lays_4 rfl (lv_at hl 0 rfl) ?_
  refine hm_get C M 37 (by decide) q2104 (v := .int (hm_gI σ 37)) rfl dX5_lays_5 ?_
  refine lv_iload_n hx hb dX5_lays_8 rfl (lv_at hl 1 rfl) ?_
  refine lv_i2b hx hb dX5_lays_9 rfl ?_
  obtain ⟨g1, hf⟩ := hf
  refine hm_ast36 C M g1 dX5_lays_10 (fun H locs M => ?_)
  refine lv_aload_n hx hb dX5_lays_11 rfl (lv_at hl 0 rfl) ?_
  refine lv_dup hx hb dX5_lays_12 rfl ?_
  refine hm_get C M 37 (by decide) q2104 (v := .int (hm_gI (hm_sA σ 36 (hm_gI σ 37) (vp_nar .byte a1.toInt8.toInt32)) 37)) rfl dX5_lays_13 ?_
  refine lv_iconst (v := 1) hx hb dX5_lays_16 rfl ?_
  refine lv_iadd hx hb dX5_lays_17 ?_
  refine hm_put37 C M q2104 dX5_lays_18 (fun H locs M => ?_)
  exact hret _ _ _ _ _ dX5_lays_21 M hf
def hw_digits_b18 : Nat → Int32 → Int32 → hm_S → (hm_S → Prop) → Prop
  | 0, _, _, _, _ => False
  | n18 + 1, v1_18, v2_18, σ18, Q => (v2_18 ≤ 0 → Q σ18) ∧ (¬ v2_18 ≤ 0 → ¬ v2_18 = 0 ∧ (hw_lays (48 + ((v1_18 / v2_18) - (v1_18 / v2_18) / 10 * 10)) σ18 (fun σ_32 => (hw_digits_b18  n18 v1_18 (v2_18 / 10) σ_32 Q))))
def hw_digits_b2 : Nat → Int32 → Int32 → hm_S → (hm_S → Prop) → Prop
  | 0, _, _, _, _ => False
  | n2 + 1, v1_2, v2_2, σ2, Q => ¬ v2_2 = 0 ∧ (((v1_2 / v2_2) ≤ 9 → ∃ n, hw_digits_b18  n v1_2 v2_2 σ2 Q) ∧ (¬ (v1_2 / v2_2) ≤ 9 → hw_digits_b2  n2 v1_2 (v2_2 * 10) σ2 Q))
def hw_digits (a1 : Int32) (σ : hm_S) (Q : hm_S → Prop) : Prop := ∃ n, hw_digits_b2  n a1 1 σ Q
set_option maxHeartbeats 4000000 in
set_option maxRecDepth 100000 in
theorem hk_digits (l : Launch) (D : va_G) (dA : Nat → ClassId) (o : Nat) (b : Nat → Nat) (hB : hm_D dA o b) (a1 : Int32) (σ : hm_S) {Q : hm_S → Prop} (hf : hw_digits a1 σ Q) : Met l yX5_digits (ws_ yX5_digits cX5_digits 3 none) (hb_R 1 21) (va_Pc [.ref o, .int a1] (hm_U D dA o b σ)) (va_Qv Q (hm_U D dA o b) (hm_A o b)) 0 0 (hm_A o b) := by
  refine hm_Mv hB (LV := [(0, .ref o), (1, .int a1)]) (by decide) rfl (Nat.le_of_ble_eq_true rfl) (fun p e s m args below meth c ls QQ C M hl hret => ?_)
  have hx := C.1.1
  have hb := C.1.2.1
  have B18 : ∀ (n18 : Nat) (v1_18 : Int32) (v2_18 : Int32) (σ18 : hm_S) (H : Heap) (locs : List Loc) (ls : Array Slot), hm_M D dA o b s.heap σ18 H locs → lv_has ls 3 [(0, .ref o), (1, .int v1_18), (2, .int v2_18)] → hw_digits_b18  n18 v1_18 v2_18 σ18 Q → W p l e (hb_R 1 21) s m args below meth c H locs 0 0 QQ (F0 m 18 ls []) := by
    intro n18
    induction n18 with
    | zero => intro v1_18 v2_18 σ18 H locs ls M hl hf; exact hf.elim
    | succ n18 ih18 =>
      intro v1_18 v2_18 σ18 H locs ls M hl hf
      refine lv_iload_n hx hb dX5_digits_18 rfl (lv_at hl 2 rfl) ?_
      obtain ⟨hft, hff⟩ := hf
      refine lv_if_le (tgt := 43) hx hb dX5_digits_19 (by decide) (fun c1 => ?_) (fun c1 => ?_)
      · have hf := hft c1
        exact hret _ _ _ _ _ dX5_digits_43 M hf
      · have hf := hff c1
        refine lv_aload_n hx hb dX5_digits_22 rfl (lv_at hl 0 rfl) ?_
        refine lv_bipush (v := 48) hx hb dX5_digits_23 rfl ?_
        refine lv_iload_n hx hb dX5_digits_25 rfl (lv_at hl 1 rfl) ?_
        refine lv_iload_n hx hb dX5_digits_26 rfl (lv_at hl 2 rfl) ?_
        obtain ⟨g1, hf⟩ := hf
        refine lv_idiv hx hb dX5_digits_27 g1 ?_
        refine lv_bipush (v := 10) hx hb dX5_digits_28 rfl ?_
        refine lv_irem hx hb dX5_digits_30 (by decide) ?_
        refine lv_iadd hx hb dX5_digits_31 ?_
        refine hm_cv C M hl.1 (As := [.int (48 + ((v1_18 / v2_18) - (v1_18 / v2_18) / 10 * 10))]) (rest := []) (hk_lays l D dA o b hB (48 + ((v1_18 / v2_18) - (v1_18 / v2_18) / 10 * 10)) σ18 hf) (n := 1) q2605 q2607 qs108 q140 q2608 (by decide +kernel) rfl ⟨Nat.le_of_ble_eq_true rfl, Nat.le_of_ble_eq_true rfl⟩ rfl (Nat.le_of_ble_eq_true rfl) dX5_digits_32 (fun σ_32 H locs hf M => ?_)
        refine lv_iload_n hx hb dX5_digits_35 rfl (lv_at hl 2 rfl) ?_
        refine lv_bipush (v := 10) hx hb dX5_digits_36 rfl ?_
        refine lv_idiv hx hb dX5_digits_38 (by decide) ?_
        refine lv_istore_n (lv' := [(2, .int (v2_18 / 10)), (0, .ref o), (1, .int v1_18)]) hx hb dX5_digits_39 rfl hl (by decide) rfl (fun ls hl => ?_)
        refine lv_goto (tgt := 18) hx hb dX5_digits_40 (by decide) ?_
        exact ih18 v1_18 (v2_18 / 10) σ_32 _ _ _ M (lv_sub hl [1, 2, 0] rfl) hf
  have B2 : ∀ (n2 : Nat) (v1_2 : Int32) (v2_2 : Int32) (σ2 : hm_S) (H : Heap) (locs : List Loc) (ls : Array Slot), hm_M D dA o b s.heap σ2 H locs → lv_has ls 3 [(0, .ref o), (1, .int v1_2), (2, .int v2_2)] → hw_digits_b2  n2 v1_2 v2_2 σ2 Q → W p l e (hb_R 1 21) s m args below meth c H locs 0 0 QQ (F0 m 2 ls []) := by
    intro n2
    induction n2 with
    | zero => intro v1_2 v2_2 σ2 H locs ls M hl hf; exact hf.elim
    | succ n2 ih2 =>
      intro v1_2 v2_2 σ2 H locs ls M hl hf
      refine lv_iload_n hx hb dX5_digits_2 rfl (lv_at hl 1 rfl) ?_
      refine lv_iload_n hx hb dX5_digits_3 rfl (lv_at hl 2 rfl) ?_
      obtain ⟨g1, hf⟩ := hf
      refine lv_idiv hx hb dX5_digits_4 g1 ?_
      refine lv_bipush (v := 9) hx hb dX5_digits_5 rfl ?_
      obtain ⟨hft, hff⟩ := hf
      refine lv_icmp_le (tgt := 18) hx hb dX5_digits_7 (by decide) (fun c1 => ?_) (fun c1 => ?_)
      · have hf := hft c1
        obtain ⟨nn, hf⟩ := hf
        exact B18 nn v1_2 v2_2 σ2 _ _ _ M (lv_sub hl [0, 1, 2] rfl) hf
      · have hf := hff c1
        refine lv_iload_n hx hb dX5_digits_10 rfl (lv_at hl 2 rfl) ?_
        refine lv_bipush (v := 10) hx hb dX5_digits_11 rfl ?_
        refine lv_imul hx hb dX5_digits_13 ?_
        refine lv_istore_n (lv' := [(2, .int (v2_2 * 10)), (0, .ref o), (1, .int v1_2)]) hx hb dX5_digits_14 rfl hl (by decide) rfl (fun ls hl => ?_)
        refine lv_goto (tgt := 2) hx hb dX5_digits_15 (by decide) ?_
        exact ih2 v1_2 (v2_2 * 10) σ2 _ _ _ M (lv_sub hl [1, 2, 0] rfl) hf
  refine lv_iconst (v := 1) hx hb dX5_digits_0 rfl ?_
  refine lv_istore_n (lv' := [(2, .int 1), (0, .ref o), (1, .int a1)]) hx hb dX5_digits_1 rfl hl (by decide) rfl (fun ls hl => ?_)
  obtain ⟨nn, hf⟩ := hf
  exact B2 nn a1 1 σ _ _ _ M (lv_sub hl [1, 2, 0] rfl) hf
def hw_spells_b3 : Nat → Int64 → Int32 → hm_S → (hm_S → Prop) → Prop
  | 0, _, _, _, _ => False
  | n3 + 1, v1_3, v3_3, σ3, Q => (v3_3 < 0 → Q σ3) ∧ (¬ v3_3 < 0 → ((lg_cmp ((v1_3 >>> (v3_3.toInt64 &&& 63)) &&& 255) 0) = 0 → hw_spells_b3  n3 v1_3 (v3_3 + (-8)) σ3 Q) ∧ (¬ (lg_cmp ((v1_3 >>> (v3_3.toInt64 &&& 63)) &&& 255) 0) = 0 → hw_lays (((v1_3 >>> (v3_3.toInt64 &&& 63)) &&& 255).toInt32) σ3 (fun σ_28 => (hw_spells_b3  n3 v1_3 (v3_3 + (-8)) σ_28 Q))))
def hw_spells (a1 : Int64) (σ : hm_S) (Q : hm_S → Prop) : Prop := ∃ n, hw_spells_b3  n a1 56 σ Q
set_option maxHeartbeats 4000000 in
set_option maxRecDepth 100000 in
theorem hk_spells (l : Launch) (D : va_G) (dA : Nat → ClassId) (o : Nat) (b : Nat → Nat) (hB : hm_D dA o b) (a1 : Int64) (σ : hm_S) {Q : hm_S → Prop} (hf : hw_spells a1 σ Q) : Met l yX5_spells (ws_ yX5_spells cX5_spells 4 none) (hb_R 1 21) (va_Pc [.ref o, .long a1] (hm_U D dA o b σ)) (va_Qv Q (hm_U D dA o b) (hm_A o b)) 0 0 (hm_A o b) := by
  refine hm_Mv hB (LV := [(0, .ref o), (1, .long a1)]) (by decide) rfl (Nat.le_of_ble_eq_true rfl) (fun p e s m args below meth c ls QQ C M hl hret => ?_)
  have hx := C.1.1
  have hb := C.1.2.1
  have B3 : ∀ (n3 : Nat) (v1_3 : Int64) (v3_3 : Int32) (σ3 : hm_S) (H : Heap) (locs : List Loc) (ls : Array Slot), hm_M D dA o b s.heap σ3 H locs → lv_has ls 4 [(0, .ref o), (1, .long v1_3), (3, .int v3_3)] → hw_spells_b3  n3 v1_3 v3_3 σ3 Q → W p l e (hb_R 1 21) s m args below meth c H locs 0 0 QQ (F0 m 3 ls []) := by
    intro n3
    induction n3 with
    | zero => intro v1_3 v3_3 σ3 H locs ls M hl hf; exact hf.elim
    | succ n3 ih3 =>
      intro v1_3 v3_3 σ3 H locs ls M hl hf
      refine lv_iload_n hx hb dX5_spells_3 rfl (lv_at hl 2 rfl) ?_
      obtain ⟨hft, hff⟩ := hf
      refine lv_if_lt (tgt := 37) hx hb dX5_spells_4 (by decide) (fun c1 => ?_) (fun c1 => ?_)
      · have hf := hft c1
        exact hret _ _ _ _ _ dX5_spells_37 M hf
      · have hf := hff c1
        refine lv_lload_n hx hb dX5_spells_7 rfl (lv_at hl 1 rfl) ?_
        refine lv_iload_n hx hb dX5_spells_8 rfl (lv_at hl 2 rfl) ?_
        refine lv_lshr hx hb dX5_spells_9 rfl ?_
        refine lv_ldc2 hx hb C.1.2.2.2.1 (C.1.2.2.2.2 _ q2604) dX5_spells_10 ?_
        refine lv_land hx hb dX5_spells_13 ?_
        refine lv_lconst (v := 0) hx hb dX5_spells_14 rfl ?_
        refine W.lcmp hx hb dX5_spells_15 ?_
        obtain ⟨hft, hff⟩ := hf
        refine lv_if_eq (tgt := 31) hx hb dX5_spells_16 (by decide) (fun c1 => ?_) (fun c1 => ?_)
        · have hf := hft c1
          refine lv_iinc (v := v3_3 + (-8)) (lv' := [(3, .int (v3_3 + (-8))), (0, .ref o), (1, .long v1_3)]) hx hb dX5_spells_31 hl (k := 2) rfl rfl (by decide) rfl (fun ls hl => ?_)
          refine lv_goto (tgt := 3) hx hb dX5_spells_34 (by decide) ?_
          exact ih3 v1_3 (v3_3 + (-8)) σ3 _ _ _ M (lv_sub hl [1, 2, 0] rfl) hf
        · have hf := hff c1
          refine lv_aload_n hx hb dX5_spells_19 rfl (lv_at hl 0 rfl) ?_
          refine lv_lload_n hx hb dX5_spells_20 rfl (lv_at hl 1 rfl) ?_
          refine lv_iload_n hx hb dX5_spells_21 rfl (lv_at hl 2 rfl) ?_
          refine lv_lshr hx hb dX5_spells_22 rfl ?_
          refine lv_ldc2 hx hb C.1.2.2.2.1 (C.1.2.2.2.2 _ q2604) dX5_spells_23 ?_
          refine lv_land hx hb dX5_spells_26 ?_
          refine lv_l2i hx hb dX5_spells_27 rfl ?_
          refine hm_cv C M hl.1 (As := [.int (((v1_3 >>> (v3_3.toInt64 &&& 63)) &&& 255).toInt32)]) (rest := []) (hk_lays l D dA o b hB (((v1_3 >>> (v3_3.toInt64 &&& 63)) &&& 255).toInt32) σ3 hf) (n := 1) q2605 q2607 qs108 q140 q2608 (by decide +kernel) rfl ⟨Nat.le_of_ble_eq_true rfl, Nat.le_of_ble_eq_true rfl⟩ rfl (Nat.le_of_ble_eq_true rfl) dX5_spells_28 (fun σ_28 H locs hf M => ?_)
          refine lv_iinc (v := v3_3 + (-8)) (lv' := [(3, .int (v3_3 + (-8))), (0, .ref o), (1, .long v1_3)]) hx hb dX5_spells_31 hl (k := 2) rfl rfl (by decide) rfl (fun ls hl => ?_)
          refine lv_goto (tgt := 3) hx hb dX5_spells_34 (by decide) ?_
          exact ih3 v1_3 (v3_3 + (-8)) σ_28 _ _ _ M (lv_sub hl [1, 2, 0] rfl) hf
  refine lv_bipush (v := 56) hx hb dX5_spells_0 rfl ?_
  refine lv_istore_n (lv' := [(3, .int 56), (0, .ref o), (1, .long a1)]) hx hb dX5_spells_2 rfl hl (by decide) rfl (fun ls hl => ?_)
  obtain ⟨nn, hf⟩ := hf
  exact B3 nn a1 56 σ _ _ _ M (lv_sub hl [1, 2, 0] rfl) hf
def hw_says (a1 : Int64) (σ : hm_S) (Q : hm_S → Prop) : Prop := hw_lays 32 σ (fun σ_3 => (hw_spells a1 σ_3 (fun σ_8 => (Q σ_8))))
set_option maxHeartbeats 4000000 in
set_option maxRecDepth 100000 in
theorem hk_says (l : Launch) (D : va_G) (dA : Nat → ClassId) (o : Nat) (b : Nat → Nat) (hB : hm_D dA o b) (a1 : Int64) (σ : hm_S) {Q : hm_S → Prop} (hf : hw_says a1 σ Q) : Met l yX5_says (ws_ yX5_says cX5_says 3 none) (hb_R 2 44) (va_Pc [.ref o, .long a1] (hm_U D dA o b σ)) (va_Qv Q (hm_U D dA o b) (hm_A o b)) 0 0 (hm_A o b) := by
  refine hm_Mv hB (LV := [(0, .ref o), (1, .long a1)]) (by decide) rfl (Nat.le_of_ble_eq_true rfl) (fun p e s m args below meth c ls QQ C M hl hret => ?_)
  have hx := C.1.1
  have hb := C.1.2.1
  refine lv_aload_n hx hb dX5_says_0 rfl (lv_at hl 0 rfl) ?_
  refine lv_bipush (v := 32) hx hb dX5_says_1 rfl ?_
  refine hm_cv C M hl.1 (As := [.int 32]) (rest := []) (hk_lays l D dA o b hB 32 σ hf) (n := 1) q2605 q2607 qs108 q140 q2608 (by decide +kernel) rfl ⟨Nat.le_of_ble_eq_true rfl, Nat.le_of_ble_eq_true rfl⟩ rfl (Nat.le_of_ble_eq_true rfl) dX5_says_3 (fun σ_3 H locs hf M => ?_)
  refine lv_aload_n hx hb dX5_says_6 rfl (lv_at hl 0 rfl) ?_
  refine lv_lload_n hx hb dX5_says_7 rfl (lv_at hl 1 rfl) ?_
  refine hm_cv C M hl.1 (As := [.long a1]) (rest := []) (hk_spells l D dA o b hB a1 σ_3 hf) (n := 1) q2600 q2602 qs107 q140 q2603 (by decide +kernel) rfl ⟨Nat.le_of_ble_eq_true rfl, Nat.le_of_ble_eq_true rfl⟩ rfl (Nat.le_of_ble_eq_true rfl) dX5_says_8 (fun σ_8 H locs hf M => ?_)
  exact hret _ _ _ _ _ dX5_says_11 M hf
def hw_tag (a1 : Int32) (σ : hm_S) (Q : Int32 → hm_S → Prop) : Prop := hw_isPerson a1 (hm_sI σ 0 0) (fun r_7 σ_7 => ((¬ r_7 = 0 → vp_in a1 24 ∧ (hw_spells (hm_gL (hm_sI σ_7 37 0) 9 a1) (hm_sI σ_7 37 0) (fun σ_27 => (hw_isLiving a1 σ_27 (fun r_32 σ_32 => ((¬ r_32 = 0 → vp_in (117 + a1) 346 ∧ (((hm_gA σ_32 6 (117 + a1)) ≤ 0 → hw_says 126896661032037 σ_32 (fun σ_94 => (hw_says 6840691 σ_94 (fun σ_101 => (hw_lays 32 σ_101 (fun σ_107 => (vp_in (105 + a1) 346 ∧ (hw_digits (hm_gA σ_107 6 (105 + a1)) σ_107 (fun σ_120 => (Q (hm_gI σ_120 37) σ_120)))))))))) ∧ (¬ (hm_gA σ_32 6 (117 + a1)) ≤ 0 → hw_says 7824740 σ_32 (fun σ_64 => (vp_in (117 + a1) 346 ∧ (vp_in ((hm_gA σ_64 6 (117 + a1)) - 1) 24 ∧ (hw_says (hm_gL σ_64 9 ((hm_gA σ_64 6 (117 + a1)) - 1)) σ_64 (fun σ_84 => (hw_says 6840691 σ_84 (fun σ_101 => (hw_lays 32 σ_101 (fun σ_107 => (vp_in (105 + a1) 346 ∧ (hw_digits (hm_gA σ_107 6 (105 + a1)) σ_107 (fun σ_120 => (Q (hm_gI σ_120 37) σ_120)))))))))))))))) ∧ (r_32 = 0 → hw_says 1684365668 σ_32 (fun σ_42 => (hw_says 6840691 σ_42 (fun σ_101 => (hw_lays 32 σ_101 (fun σ_107 => (vp_in (105 + a1) 346 ∧ (hw_digits (hm_gA σ_107 6 (105 + a1)) σ_107 (fun σ_120 => (Q (hm_gI σ_120 37) σ_120)))))))))))))))) ∧ (r_7 = 0 → Q (-1) σ_7)))
set_option maxHeartbeats 4000000 in
set_option maxRecDepth 100000 in
theorem hk_tag (l : Launch) (D : va_G) (dA : Nat → ClassId) (o : Nat) (b : Nat → Nat) (hB : hm_D dA o b) (a1 : Int32) (σ : hm_S) {Q : Int32 → hm_S → Prop} (hf : hw_tag a1 σ Q) : Met l yX5_tag (ws_ yX5_tag cX5_tag 2 (some .int)) (hb_R 3 66) (va_Pc [.ref o, .int a1] (hm_U D dA o b σ)) (va_Qi Q (hm_U D dA o b) (hm_A o b)) 0 0 (hm_A o b) := by
  refine hm_Mi hB (LV := [(0, .ref o), (1, .int a1)]) (by decide) rfl (Nat.le_of_ble_eq_true rfl) (fun p e s m args below meth c ls QQ C M hl hret => ?_)
  have hx := C.1.1
  have hb := C.1.2.1
  refine lv_aload_n hx hb dX5_tag_0 rfl (lv_at hl 0 rfl) ?_
  refine lv_iconst (v := 0) hx hb dX5_tag_1 rfl ?_
  refine hm_put0 C M q2067 dX5_tag_2 (fun H locs M => ?_)
  refine lv_aload_n hx hb dX5_tag_5 rfl (lv_at hl 0 rfl) ?_
  refine lv_iload_n hx hb dX5_tag_6 rfl (lv_at hl 1 rfl) ?_
  refine hm_ci C M hl.1 (As := [.int a1]) (rest := []) (hk_isPerson l D dA o b hB a1 (hm_sI σ 0 0) hf) (n := 1) q2333 q2335 qs69 q140 q2336 (by decide +kernel) rfl ⟨Nat.le_of_ble_eq_true rfl, Nat.le_of_ble_eq_true rfl⟩ rfl (Nat.le_of_ble_eq_true rfl) dX5_tag_7 (fun r_7 σ_7 H locs hf M => ?_)
  obtain ⟨hft, hff⟩ := hf
  refine lv_if_ne (tgt := 15) hx hb dX5_tag_10 (by decide) (fun c1 => ?_) (fun c1 => ?_)
  · have hf := hft c1
    refine lv_aload_n hx hb dX5_tag_15 rfl (lv_at hl 0 rfl) ?_
    refine lv_iconst (v := 0) hx hb dX5_tag_16 rfl ?_
    refine hm_put37 C M q2104 dX5_tag_17 (fun H locs M => ?_)
    refine lv_aload_n hx hb dX5_tag_20 rfl (lv_at hl 0 rfl) ?_
    refine lv_aload_n hx hb dX5_tag_21 rfl (lv_at hl 0 rfl) ?_
    refine hm_get C M 9 (by decide) q2076 (v := .ref (b 9)) rfl dX5_tag_22 ?_
    refine lv_iload_n hx hb dX5_tag_25 rfl (lv_at hl 1 rfl) ?_
    obtain ⟨g1, hf⟩ := hf
    refine hm_ald9 C M g1 dX5_tag_26 ?_
    refine hm_cv C M hl.1 (As := [.long (hm_gL (hm_sI σ_7 37 0) 9 a1)]) (rest := []) (hk_spells l D dA o b hB (hm_gL (hm_sI σ_7 37 0) 9 a1) (hm_sI σ_7 37 0) hf) (n := 1) q2600 q2602 qs107 q140 q2603 (by decide +kernel) rfl ⟨Nat.le_of_ble_eq_true rfl, Nat.le_of_ble_eq_true rfl⟩ rfl (Nat.le_of_ble_eq_true rfl) dX5_tag_27 (fun σ_27 H locs hf M => ?_)
    refine lv_aload_n hx hb dX5_tag_30 rfl (lv_at hl 0 rfl) ?_
    refine lv_iload_n hx hb dX5_tag_31 rfl (lv_at hl 1 rfl) ?_
    refine hm_ci C M hl.1 (As := [.int a1]) (rest := []) (hk_isLiving l D dA o b hB a1 σ_27 hf) (n := 1) q2341 q2343 qs71 q140 q2344 (by decide +kernel) rfl ⟨Nat.le_of_ble_eq_true rfl, Nat.le_of_ble_eq_true rfl⟩ rfl (Nat.le_of_ble_eq_true rfl) dX5_tag_32 (fun r_32 σ_32 H locs hf M => ?_)
    obtain ⟨hft, hff⟩ := hf
    refine lv_if_ne (tgt := 48) hx hb dX5_tag_35 (by decide) (fun c1 => ?_) (fun c1 => ?_)
    · have hf := hft c1
      refine lv_aload_n hx hb dX5_tag_48 rfl (lv_at hl 0 rfl) ?_
      refine hm_get C M 6 (by decide) q2073 (v := .ref (b 6)) rfl dX5_tag_49 ?_
      refine lv_bipush (v := 117) hx hb dX5_tag_52 rfl ?_
      refine lv_iload_n hx hb dX5_tag_54 rfl (lv_at hl 1 rfl) ?_
      refine lv_iadd hx hb dX5_tag_55 ?_
      obtain ⟨g1, hf⟩ := hf
      refine hm_ald6 C M g1 dX5_tag_56 ?_
      obtain ⟨hft, hff⟩ := hf
      refine lv_if_le (tgt := 90) hx hb dX5_tag_57 (by decide) (fun c1 => ?_) (fun c1 => ?_)
      · have hf := hft c1
        refine lv_aload_n hx hb dX5_tag_90 rfl (lv_at hl 0 rfl) ?_
        refine lv_ldc2 hx hb C.1.2.2.2.1 (C.1.2.2.2.2 _ q2613) dX5_tag_91 ?_
        refine hm_cv C M hl.1 (As := [.long 126896661032037]) (rest := []) (hk_says l D dA o b hB 126896661032037 σ_32 hf) (n := 1) q2609 q2611 qs109 q140 q2612 (by decide +kernel) rfl ⟨Nat.le_of_ble_eq_true rfl, Nat.le_of_ble_eq_true rfl⟩ rfl (Nat.le_of_ble_eq_true rfl) dX5_tag_94 (fun σ_94 H locs hf M => ?_)
        refine lv_aload_n hx hb dX5_tag_97 rfl (lv_at hl 0 rfl) ?_
        refine lv_ldc2 hx hb C.1.2.2.2.1 (C.1.2.2.2.2 _ q2614) dX5_tag_98 ?_
        refine hm_cv C M hl.1 (As := [.long 6840691]) (rest := []) (hk_says l D dA o b hB 6840691 σ_94 hf) (n := 1) q2609 q2611 qs109 q140 q2612 (by decide +kernel) rfl ⟨Nat.le_of_ble_eq_true rfl, Nat.le_of_ble_eq_true rfl⟩ rfl (Nat.le_of_ble_eq_true rfl) dX5_tag_101 (fun σ_101 H locs hf M => ?_)
        refine lv_aload_n hx hb dX5_tag_104 rfl (lv_at hl 0 rfl) ?_
        refine lv_bipush (v := 32) hx hb dX5_tag_105 rfl ?_
        refine hm_cv C M hl.1 (As := [.int 32]) (rest := []) (hk_lays l D dA o b hB 32 σ_101 hf) (n := 1) q2605 q2607 qs108 q140 q2608 (by decide +kernel) rfl ⟨Nat.le_of_ble_eq_true rfl, Nat.le_of_ble_eq_true rfl⟩ rfl (Nat.le_of_ble_eq_true rfl) dX5_tag_107 (fun σ_107 H locs hf M => ?_)
        refine lv_aload_n hx hb dX5_tag_110 rfl (lv_at hl 0 rfl) ?_
        refine lv_aload_n hx hb dX5_tag_111 rfl (lv_at hl 0 rfl) ?_
        refine hm_get C M 6 (by decide) q2073 (v := .ref (b 6)) rfl dX5_tag_112 ?_
        refine lv_bipush (v := 105) hx hb dX5_tag_115 rfl ?_
        refine lv_iload_n hx hb dX5_tag_117 rfl (lv_at hl 1 rfl) ?_
        refine lv_iadd hx hb dX5_tag_118 ?_
        obtain ⟨g1, hf⟩ := hf
        refine hm_ald6 C M g1 dX5_tag_119 ?_
        refine hm_cv C M hl.1 (As := [.int (hm_gA σ_107 6 (105 + a1))]) (rest := []) (hk_digits l D dA o b hB (hm_gA σ_107 6 (105 + a1)) σ_107 hf) (n := 1) q2615 q2617 qs110 q140 q2618 (by decide +kernel) rfl ⟨Nat.le_of_ble_eq_true rfl, Nat.le_of_ble_eq_true rfl⟩ rfl (Nat.le_of_ble_eq_true rfl) dX5_tag_120 (fun σ_120 H locs hf M => ?_)
        refine lv_aload_n hx hb dX5_tag_123 rfl (lv_at hl 0 rfl) ?_
        refine hm_get C M 37 (by decide) q2104 (v := .int (hm_gI σ_120 37)) rfl dX5_tag_124 ?_
        exact hret _ _ _ _ _ _ dX5_tag_127 M hf
      · have hf := hff c1
        refine lv_aload_n hx hb dX5_tag_60 rfl (lv_at hl 0 rfl) ?_
        refine lv_ldc2 hx hb C.1.2.2.2.1 (C.1.2.2.2.2 _ q2042) dX5_tag_61 ?_
        refine hm_cv C M hl.1 (As := [.long 7824740]) (rest := []) (hk_says l D dA o b hB 7824740 σ_32 hf) (n := 1) q2609 q2611 qs109 q140 q2612 (by decide +kernel) rfl ⟨Nat.le_of_ble_eq_true rfl, Nat.le_of_ble_eq_true rfl⟩ rfl (Nat.le_of_ble_eq_true rfl) dX5_tag_64 (fun σ_64 H locs hf M => ?_)
        refine lv_aload_n hx hb dX5_tag_67 rfl (lv_at hl 0 rfl) ?_
        refine lv_aload_n hx hb dX5_tag_68 rfl (lv_at hl 0 rfl) ?_
        refine hm_get C M 9 (by decide) q2076 (v := .ref (b 9)) rfl dX5_tag_69 ?_
        refine lv_aload_n hx hb dX5_tag_72 rfl (lv_at hl 0 rfl) ?_
        refine hm_get C M 6 (by decide) q2073 (v := .ref (b 6)) rfl dX5_tag_73 ?_
        refine lv_bipush (v := 117) hx hb dX5_tag_76 rfl ?_
        refine lv_iload_n hx hb dX5_tag_78 rfl (lv_at hl 1 rfl) ?_
        refine lv_iadd hx hb dX5_tag_79 ?_
        obtain ⟨g1, hf⟩ := hf
        refine hm_ald6 C M g1 dX5_tag_80 ?_
        refine lv_iconst (v := 1) hx hb dX5_tag_81 rfl ?_
        refine lv_isub hx hb dX5_tag_82 ?_
        obtain ⟨g1, hf⟩ := hf
        refine hm_ald9 C M g1 dX5_tag_83 ?_
        refine hm_cv C M hl.1 (As := [.long (hm_gL σ_64 9 ((hm_gA σ_64 6 (117 + a1)) - 1))]) (rest := []) (hk_says l D dA o b hB (hm_gL σ_64 9 ((hm_gA σ_64 6 (117 + a1)) - 1)) σ_64 hf) (n := 1) q2609 q2611 qs109 q140 q2612 (by decide +kernel) rfl ⟨Nat.le_of_ble_eq_true rfl, Nat.le_of_ble_eq_true rfl⟩ rfl (Nat.le_of_ble_eq_true rfl) dX5_tag_84 (fun σ_84 H locs hf M => ?_)
        refine lv_goto (tgt := 97) hx hb dX5_tag_87 (by decide) ?_
        refine lv_aload_n hx hb dX5_tag_97 rfl (lv_at hl 0 rfl) ?_
        refine lv_ldc2 hx hb C.1.2.2.2.1 (C.1.2.2.2.2 _ q2614) dX5_tag_98 ?_
        refine hm_cv C M hl.1 (As := [.long 6840691]) (rest := []) (hk_says l D dA o b hB 6840691 σ_84 hf) (n := 1) q2609 q2611 qs109 q140 q2612 (by decide +kernel) rfl ⟨Nat.le_of_ble_eq_true rfl, Nat.le_of_ble_eq_true rfl⟩ rfl (Nat.le_of_ble_eq_true rfl) dX5_tag_101 (fun σ_101 H locs hf M => ?_)
        refine lv_aload_n hx hb dX5_tag_104 rfl (lv_at hl 0 rfl) ?_
        refine lv_bipush (v := 32) hx hb dX5_tag_105 rfl ?_
        refine hm_cv C M hl.1 (As := [.int 32]) (rest := []) (hk_lays l D dA o b hB 32 σ_101 hf) (n := 1) q2605 q2607 qs108 q140 q2608 (by decide +kernel) rfl ⟨Nat.le_of_ble_eq_true rfl, Nat.le_of_ble_eq_true rfl⟩ rfl (Nat.le_of_ble_eq_true rfl) dX5_tag_107 (fun σ_107 H locs hf M => ?_)
        refine lv_aload_n hx hb dX5_tag_110 rfl (lv_at hl 0 rfl) ?_
        refine lv_aload_n hx hb dX5_tag_111 rfl (lv_at hl 0 rfl) ?_
        refine hm_get C M 6 (by decide) q2073 (v := .ref (b 6)) rfl dX5_tag_112 ?_
        refine lv_bipush (v := 105) hx hb dX5_tag_115 rfl ?_
        refine lv_iload_n hx hb dX5_tag_117 rfl (lv_at hl 1 rfl) ?_
        refine lv_iadd hx hb dX5_tag_118 ?_
        obtain ⟨g1, hf⟩ := hf
        refine hm_ald6 C M g1 dX5_tag_119 ?_
        refine hm_cv C M hl.1 (As := [.int (hm_gA σ_107 6 (105 + a1))]) (rest := []) (hk_digits l D dA o b hB (hm_gA σ_107 6 (105 + a1)) σ_107 hf) (n := 1) q2615 q2617 qs110 q140 q2618 (by decide +kernel) rfl ⟨Nat.le_of_ble_eq_true rfl, Nat.le_of_ble_eq_true rfl⟩ rfl (Nat.le_of_ble_eq_true rfl) dX5_tag_120 (fun σ_120 H locs hf M => ?_)
        refine lv_aload_n hx hb dX5_tag_123 rfl (lv_at hl 0 rfl) ?_
        refine hm_get C M 37 (by decide) q2104 (v := .int (hm_gI σ_120 37)) rfl dX5_tag_124 ?_
        exact hret _ _ _ _ _ _ dX5_tag_127 M hf
    · have hf := hff c1
      refine lv_aload_n hx hb dX5_tag_38 rfl (lv_at hl 0 rfl) ?_
      refine lv_ldc2 hx hb C.1.2.2.2.1 (C.1.2.2.2.2 _ q2055) dX5_tag_39 ?_
      refine hm_cv C M hl.1 (As := [.long 1684365668]) (rest := []) (hk_says l D dA o b hB 1684365668 σ_32 hf) (n := 1) q2609 q2611 qs109 q140 q2612 (by decide +kernel) rfl ⟨Nat.le_of_ble_eq_true rfl, Nat.le_of_ble_eq_true rfl⟩ rfl (Nat.le_of_ble_eq_true rfl) dX5_tag_42 (fun σ_42 H locs hf M => ?_)
      refine lv_goto (tgt := 97) hx hb dX5_tag_45 (by decide) ?_
      refine lv_aload_n hx hb dX5_tag_97 rfl (lv_at hl 0 rfl) ?_
      refine lv_ldc2 hx hb C.1.2.2.2.1 (C.1.2.2.2.2 _ q2614) dX5_tag_98 ?_
      refine hm_cv C M hl.1 (As := [.long 6840691]) (rest := []) (hk_says l D dA o b hB 6840691 σ_42 hf) (n := 1) q2609 q2611 qs109 q140 q2612 (by decide +kernel) rfl ⟨Nat.le_of_ble_eq_true rfl, Nat.le_of_ble_eq_true rfl⟩ rfl (Nat.le_of_ble_eq_true rfl) dX5_tag_101 (fun σ_101 H locs hf M => ?_)
      refine lv_aload_n hx hb dX5_tag_104 rfl (lv_at hl 0 rfl) ?_
      refine lv_bipush (v := 32) hx hb dX5_tag_105 rfl ?_
      refine hm_cv C M hl.1 (As := [.int 32]) (rest := []) (hk_lays l D dA o b hB 32 σ_101 hf) (n := 1) q2605 q2607 qs108 q140 q2608 (by decide +kernel) rfl ⟨Nat.le_of_ble_eq_true rfl, Nat.le_of_ble_eq_true rfl⟩ rfl (Nat.le_of_ble_eq_true rfl) dX5_tag_107 (fun σ_107 H locs hf M => ?_)
      refine lv_aload_n hx hb dX5_tag_110 rfl (lv_at hl 0 rfl) ?_
      refine lv_aload_n hx hb dX5_tag_111 rfl (lv_at hl 0 rfl) ?_
      refine hm_get C M 6 (by decide) q2073 (v := .ref (b 6)) rfl dX5_tag_112 ?_
      refine lv_bipush (v := 105) hx hb dX5_tag_115 rfl ?_
      refine lv_iload_n hx hb dX5_tag_117 rfl (lv_at hl 1 rfl) ?_
      refine lv_iadd hx hb dX5_tag_118 ?_
      obtain ⟨g1, hf⟩ := hf
      refine hm_ald6 C M g1 dX5_tag_119 ?_
      refine hm_cv C M hl.1 (As := [.int (hm_gA σ_107 6 (105 + a1))]) (rest := []) (hk_digits l D dA o b hB (hm_gA σ_107 6 (105 + a1)) σ_107 hf) (n := 1) q2615 q2617 qs110 q140 q2618 (by decide +kernel) rfl ⟨Nat.le_of_ble_eq_true rfl, Nat.le_of_ble_eq_true rfl⟩ rfl (Nat.le_of_ble_eq_true rfl) dX5_tag_120 (fun σ_120 H locs hf M => ?_)
      refine lv_aload_n hx hb dX5_tag_123 rfl (lv_at hl 0 rfl) ?_
      refine hm_get C M 37 (by decide) q2104 (v := .int (hm_gI σ_120 37)) rfl dX5_tag_124 ?_
      exact hret _ _ _ _ _ _ dX5_tag_127 M hf
  · have hf := hff c1
    refine lv_iconst (v := (-1)) hx hb dX5_tag_13 rfl ?_
    exact hret _ _ _ _ _ _ dX5_tag_14 M hf
def hw_byteAt (a1 : Int32) (σ : hm_S) (Q : Int32 → hm_S → Prop) : Prop := hw_isIn a1 0 ((hm_gI (hm_sI σ 0 0) 37) - 1) (hm_sI σ 0 0) (fun r_13 σ_13 => ((r_13 = 0 → Q (-1) σ_13) ∧ (¬ r_13 = 0 → vp_in a1 48 ∧ (Q (hm_gA σ_13 36 a1) σ_13))))
set_option maxHeartbeats 4000000 in
set_option maxRecDepth 100000 in
theorem hk_byteAt (l : Launch) (D : va_G) (dA : Nat → ClassId) (o : Nat) (b : Nat → Nat) (hB : hm_D dA o b) (a1 : Int32) (σ : hm_S) {Q : Int32 → hm_S → Prop} (hf : hw_byteAt a1 σ Q) : Met l yX5_byteAt (ws_ yX5_byteAt cX5_byteAt 2 (some .int)) (hb_R 1 22) (va_Pc [.ref o, .int a1] (hm_U D dA o b σ)) (va_Qi Q (hm_U D dA o b) (hm_A o b)) 0 0 (hm_A o b) := by
  refine hm_Mi hB (LV := [(0, .ref o), (1, .int a1)]) (by decide) rfl (Nat.le_of_ble_eq_true rfl) (fun p e s m args below meth c ls QQ C M hl hret => ?_)
  have hx := C.1.1
  have hb := C.1.2.1
  refine lv_aload_n hx hb dX5_byteAt_0 rfl (lv_at hl 0 rfl) ?_
  refine lv_iconst (v := 0) hx hb dX5_byteAt_1 rfl ?_
  refine hm_put0 C M q2067 dX5_byteAt_2 (fun H locs M => ?_)
  refine lv_iload_n hx hb dX5_byteAt_5 rfl (lv_at hl 1 rfl) ?_
  refine lv_iconst (v := 0) hx hb dX5_byteAt_6 rfl ?_
  refine lv_aload_n hx hb dX5_byteAt_7 rfl (lv_at hl 0 rfl) ?_
  refine hm_get C M 37 (by decide) q2104 (v := .int (hm_gI (hm_sI σ 0 0) 37)) rfl dX5_byteAt_8 ?_
  refine lv_iconst (v := 1) hx hb dX5_byteAt_11 rfl ?_
  refine lv_isub hx hb dX5_byteAt_12 ?_
  refine hm_csi C M hl.1 (As := [.int a1, .int 0, .int ((hm_gI (hm_sI σ 0 0) 37) - 1)]) (rest := []) (hk_isIn l D dA o b hB a1 0 ((hm_gI (hm_sI σ 0 0) 37) - 1) (hm_sI σ 0 0) hf) (n := 3) q2280 q2281 q140 q2282 (by decide +kernel) rfl ⟨Nat.le_of_ble_eq_true rfl, Nat.le_of_ble_eq_true rfl⟩ rfl (Nat.le_of_ble_eq_true rfl) dX5_byteAt_13 (fun r_13 σ_13 H locs hf M => ?_)
  obtain ⟨hft, hff⟩ := hf
  refine lv_if_eq (tgt := 28) hx hb dX5_byteAt_16 (by decide) (fun c1 => ?_) (fun c1 => ?_)
  · have hf := hft c1
    refine lv_iconst (v := (-1)) hx hb dX5_byteAt_28 rfl ?_
    exact hret _ _ _ _ _ _ dX5_byteAt_29 M hf
  · have hf := hff c1
    refine lv_aload_n hx hb dX5_byteAt_19 rfl (lv_at hl 0 rfl) ?_
    refine hm_get C M 36 (by decide) q2103 (v := .ref (b 36)) rfl dX5_byteAt_20 ?_
    refine lv_iload_n hx hb dX5_byteAt_23 rfl (lv_at hl 1 rfl) ?_
    obtain ⟨g1, hf⟩ := hf
    refine hm_ald36 C M g1 dX5_byteAt_24 ?_
    refine lv_goto (tgt := 29) hx hb dX5_byteAt_25 (by decide) ?_
    exact hret _ _ _ _ _ _ dX5_byteAt_29 M hf
def hw_draw (a1 : Int32) (σ : hm_S) (Q : Int32 → hm_S → Prop) : Prop := ¬ a1 = 0 ∧ (Q ((((hm_gI (hm_sI σ 38 (((hm_gI σ 38) * 1103515245) + 12345)) 38).toUInt32 >>> ((8 : Int32).toUInt32 &&& Int32.toUInt32 31)).toInt32) - (((hm_gI (hm_sI σ 38 (((hm_gI σ 38) * 1103515245) + 12345)) 38).toUInt32 >>> ((8 : Int32).toUInt32 &&& Int32.toUInt32 31)).toInt32) / a1 * a1) (hm_sI σ 38 (((hm_gI σ 38) * 1103515245) + 12345)))
set_option maxHeartbeats 4000000 in
set_option maxRecDepth 100000 in
theorem hk_draw (l : Launch) (D : va_G) (dA : Nat → ClassId) (o : Nat) (b : Nat → Nat) (hB : hm_D dA o b) (a1 : Int32) (σ : hm_S) {Q : Int32 → hm_S → Prop} (hf : hw_draw a1 σ Q) : Met l yX5_draw (ws_ yX5_draw cX5_draw 2 (some .int)) (hb_R 0 0) (va_Pc [.ref o, .int a1] (hm_U D dA o b σ)) (va_Qi Q (hm_U D dA o b) (hm_A o b)) 0 0 (hm_A o b) := by
  refine hm_Mi hB (LV := [(0, .ref o), (1, .int a1)]) (by decide) rfl (Nat.le_of_ble_eq_true rfl) (fun p e s m args below meth c ls QQ C M hl hret => ?_)
  have hx := C.1.1
  have hb := C.1.2.1
  refine lv_aload_n hx hb dX5_draw_0 rfl (lv_at hl 0 rfl) ?_
  refine lv_aload_n hx hb dX5_draw_1 rfl (lv_at hl 0 rfl) ?_
  refine hm_get C M 38 (by decide) q2105 (v := .int (hm_gI σ 38)) rfl dX5_draw_2 ?_
  refine lv_ldcw hx hb C.1.2.2.2.1 (C.1.2.2.2.2 _ q2639) dX5_draw_5 ?_
  refine lv_imul hx hb dX5_draw_8 ?_
  refine lv_sipush (v := 12345) hx hb dX5_draw_9 rfl ?_
  refine lv_iadd hx hb dX5_draw_12 ?_
  refine hm_put38 C M q2105 dX5_draw_13 (fun H locs M => ?_)
  refine lv_aload_n hx hb dX5_draw_16 rfl (lv_at hl 0 rfl) ?_
  refine hm_get C M 38 (by decide) q2105 (v := .int (hm_gI (hm_sI σ 38 (((hm_gI σ 38) * 1103515245) + 12345)) 38)) rfl dX5_draw_17 ?_
  refine lv_bipush (v := 8) hx hb dX5_draw_20 rfl ?_
  refine lv_iushr hx hb dX5_draw_22 rfl ?_
  refine lv_iload_n hx hb dX5_draw_23 rfl (lv_at hl 1 rfl) ?_
  obtain ⟨g1, hf⟩ := hf
  refine lv_irem hx hb dX5_draw_24 g1 ?_
  exact hret _ _ _ _ _ _ dX5_draw_25 M hf
def hw_drawYear_b170 (v1_170 : Int32) (v2_170 : Int32) (σ170 : hm_S) (Q : hm_S → Prop) : Prop := (¬ v1_170 = 4 → Q σ170) ∧ (v1_170 = 4 → vp_in (117 + v2_170) 346 ∧ (((hm_gA σ170 6 (117 + v2_170)) ≤ 0 → Q σ170) ∧ (¬ (hm_gA σ170 6 (117 + v2_170)) ≤ 0 → hw_parts0 v2_170 σ170 (fun σ_189 => (Q σ_189)))))
def hw_drawYear_b143 (v1_143 : Int32) (v2_143 : Int32) (v3_143 : Int32) (v4_143 : Int32) (σ143 : hm_S) (Q : hm_S → Prop) : Prop := (¬ v1_143 = 3 → hw_drawYear_b170  v1_143 v2_143 σ143 Q) ∧ (v1_143 = 3 → (v2_143 = v3_143 → hw_drawYear_b170  v1_143 v2_143 σ143 Q) ∧ (¬ v2_143 = v3_143 → hw_whyLeave v2_143 v3_143 σ143 (fun r_156 σ_156 => ((¬ r_156 = 0 → hw_drawYear_b170  v1_143 v2_143 σ_156 Q) ∧ (r_156 = 0 → hw_leaves v2_143 v3_143 v4_143 σ_156 (fun σ_167 => (hw_drawYear_b170  v1_143 v2_143 σ_167 Q)))))))
def hw_drawYear_b114 (v1_114 : Int32) (v2_114 : Int32) (v3_114 : Int32) (v4_114 : Int32) (σ114 : hm_S) (Q : hm_S → Prop) : Prop := (¬ v1_114 = 2 → hw_drawYear_b143  v1_114 v2_114 v3_114 v4_114 σ114 Q) ∧ (v1_114 = 2 → (v2_114 = v3_114 → hw_drawYear_b143  v1_114 v2_114 v3_114 v4_114 σ114 Q) ∧ (¬ v2_114 = v3_114 → hw_whyGive v2_114 v3_114 v4_114 σ114 (fun r_129 σ_129 => ((¬ r_129 = 0 → hw_drawYear_b143  v1_114 v2_114 v3_114 v4_114 σ_129 Q) ∧ (r_129 = 0 → hw_gives v2_114 v3_114 v4_114 σ_129 (fun σ_140 => (hw_drawYear_b143  v1_114 v2_114 v3_114 v4_114 σ_140 Q)))))))
def hw_drawYear_b89 (v1_89 : Int32) (v2_89 : Int32) (v3_89 : Int32) (v4_89 : Int32) (σ89 : hm_S) (Q : hm_S → Prop) : Prop := (¬ v1_89 = 1 → hw_drawYear_b114  v1_89 v2_89 v3_89 v4_89 σ89 Q) ∧ (v1_89 = 1 → (v2_89 = v3_89 → hw_drawYear_b114  v1_89 v2_89 v3_89 v4_89 σ89 Q) ∧ (¬ v2_89 = v3_89 → hw_whyWed v2_89 v3_89 σ89 (fun r_102 σ_102 => ((¬ r_102 = 0 → hw_drawYear_b114  v1_89 v2_89 v3_89 v4_89 σ_102 Q) ∧ (r_102 = 0 → hw_weds v2_89 v3_89 σ_102 (fun σ_111 => (hw_drawYear_b114  v1_89 v2_89 v3_89 v4_89 σ_111 Q)))))))
def hw_drawYear_b70 (v1_70 : Int32) (v2_70 : Int32) (v3_70 : Int32) (t0_70 : Int32) (σ70 : hm_S) (Q : hm_S → Prop) : Prop := (¬ v1_70 = 0 → hw_drawYear_b89  v1_70 v2_70 v3_70 t0_70 σ70 Q) ∧ (v1_70 = 0 → hw_isLiving v2_70 σ70 (fun r_78 σ_78 => ((r_78 = 0 → hw_drawYear_b89  v1_70 v2_70 v3_70 t0_70 σ_78 Q) ∧ (¬ r_78 = 0 → hw_dies v2_70 σ_78 (fun σ_86 => (hw_drawYear_b89  v1_70 v2_70 v3_70 t0_70 σ_86 Q))))))
def hw_drawYear_b58 (v1_58 : Int32) (v2_58 : Int32) (v3_58 : Int32) (σ58 : hm_S) (Q : hm_S → Prop) : Prop := hw_draw 50 σ58 (fun r_61 σ_61 => (hw_drawYear_b70  v1_58 v2_58 v3_58 (r_61 + 1) σ_61 Q))
def hw_drawYear_b47 (v1_47 : Int32) (v2_47 : Int32) (t0_47 : Int32) (σ47 : hm_S) (Q : hm_S → Prop) : Prop := (v1_47 = 2 → hw_drawYear_b58  v1_47 v2_47 t0_47 σ47 Q) ∧ (¬ v1_47 = 2 → (¬ v1_47 = 3 → hw_drawYear_b70  v1_47 v2_47 t0_47 0 σ47 Q) ∧ (v1_47 = 3 → hw_drawYear_b58  v1_47 v2_47 t0_47 σ47 Q))
def hw_drawYear_b33 (v1_33 : Int32) (v2_33 : Int32) (σ33 : hm_S) (Q : hm_S → Prop) : Prop := hw_drawYear_b47  v1_33 v2_33 v2_33 σ33 Q
def hw_drawYear  (σ : hm_S) (Q : hm_S → Prop) : Prop := hw_draw 10 σ (fun r_3 σ_3 => ((r_3 ≤ 4 → vp_in 0 346 ∧ (hw_draw (hm_gA σ_3 6 0) σ_3 (fun r_20 σ_20 => ((r_3 = 0 → hw_drawYear_b33  r_3 r_20 σ_20 Q) ∧ (¬ r_3 = 0 → (¬ r_3 = 4 → vp_in 0 346 ∧ (hw_draw (hm_gA σ_20 6 0) σ_20 (fun r_44 σ_44 => (hw_drawYear_b47  r_3 r_20 r_44 σ_44 Q)))) ∧ (r_3 = 4 → hw_drawYear_b33  r_3 r_20 σ_20 Q)))))) ∧ (¬ r_3 ≤ 4 → Q σ_3)))
set_option maxHeartbeats 4000000 in
set_option maxRecDepth 100000 in
theorem hk_drawYear (l : Launch) (D : va_G) (dA : Nat → ClassId) (o : Nat) (b : Nat → Nat) (hB : hm_D dA o b)  (σ : hm_S) {Q : hm_S → Prop} (hf : hw_drawYear  σ Q) : Met l yX5_drawYear (ws_ yX5_drawYear cX5_drawYear 5 none) (hb_R 7 164) (va_Pc [.ref o] (hm_U D dA o b σ)) (va_Qv Q (hm_U D dA o b) (hm_A o b)) 0 0 (hm_A o b) := by
  refine hm_Mv hB (LV := [(0, .ref o)]) (by decide) rfl (Nat.le_of_ble_eq_true rfl) (fun p e s m args below meth c ls QQ C M hl hret => ?_)
  have hx := C.1.1
  have hb := C.1.2.1
  have B170 : ∀ (v1_170 : Int32) (v2_170 : Int32) (σ170 : hm_S) (H : Heap) (locs : List Loc) (ls : Array Slot), hm_M D dA o b s.heap σ170 H locs → lv_has ls 5 [(0, .ref o), (1, .int v1_170), (2, .int v2_170)] → hw_drawYear_b170  v1_170 v2_170 σ170 Q → W p l e (hb_R 7 164) s m args below meth c H locs 0 0 QQ (F0 m 170 ls []) := by
    intro v1_170 v2_170 σ170 H locs ls M hl hf
    refine lv_iload_n hx hb dX5_drawYear_170 rfl (lv_at hl 1 rfl) ?_
    refine lv_iconst (v := 4) hx hb dX5_drawYear_171 rfl ?_
    obtain ⟨hft, hff⟩ := hf
    refine lv_icmp_ne (tgt := 192) hx hb dX5_drawYear_172 (by decide) (fun c1 => ?_) (fun c1 => ?_)
    · have hf := hft c1
      exact hret _ _ _ _ _ dX5_drawYear_192 M hf
    · have hf := hff c1
      refine lv_aload_n hx hb dX5_drawYear_175 rfl (lv_at hl 0 rfl) ?_
      refine hm_get C M 6 (by decide) q2073 (v := .ref (b 6)) rfl dX5_drawYear_176 ?_
      refine lv_bipush (v := 117) hx hb dX5_drawYear_179 rfl ?_
      refine lv_iload_n hx hb dX5_drawYear_181 rfl (lv_at hl 2 rfl) ?_
      refine lv_iadd hx hb dX5_drawYear_182 ?_
      obtain ⟨g1, hf⟩ := hf
      refine hm_ald6 C M g1 dX5_drawYear_183 ?_
      obtain ⟨hft, hff⟩ := hf
      refine lv_if_le (tgt := 192) hx hb dX5_drawYear_184 (by decide) (fun c1 => ?_) (fun c1 => ?_)
      · have hf := hft c1
        exact hret _ _ _ _ _ dX5_drawYear_192 M hf
      · have hf := hff c1
        refine lv_aload_n hx hb dX5_drawYear_187 rfl (lv_at hl 0 rfl) ?_
        refine lv_iload_n hx hb dX5_drawYear_188 rfl (lv_at hl 2 rfl) ?_
        refine hm_cv C M hl.1 (As := [.int v2_170]) (rest := []) (hk_parts0 l D dA o b hB v2_170 σ170 hf) (n := 1) q2401 q2403 qs82 q140 q2404 (by decide +kernel) rfl ⟨Nat.le_of_ble_eq_true rfl, Nat.le_of_ble_eq_true rfl⟩ rfl (Nat.le_of_ble_eq_true rfl) dX5_drawYear_189 (fun σ_189 H locs hf M => ?_)
        exact hret _ _ _ _ _ dX5_drawYear_192 M hf
  have B143 : ∀ (v1_143 : Int32) (v2_143 : Int32) (v3_143 : Int32) (v4_143 : Int32) (σ143 : hm_S) (H : Heap) (locs : List Loc) (ls : Array Slot), hm_M D dA o b s.heap σ143 H locs → lv_has ls 5 [(0, .ref o), (1, .int v1_143), (2, .int v2_143), (3, .int v3_143), (4, .int v4_143)] → hw_drawYear_b143  v1_143 v2_143 v3_143 v4_143 σ143 Q → W p l e (hb_R 7 164) s m args below meth c H locs 0 0 QQ (F0 m 143 ls []) := by
    intro v1_143 v2_143 v3_143 v4_143 σ143 H locs ls M hl hf
    refine lv_iload_n hx hb dX5_drawYear_143 rfl (lv_at hl 1 rfl) ?_
    refine lv_iconst (v := 3) hx hb dX5_drawYear_144 rfl ?_
    obtain ⟨hft, hff⟩ := hf
    refine lv_icmp_ne (tgt := 170) hx hb dX5_drawYear_145 (by decide) (fun c1 => ?_) (fun c1 => ?_)
    · have hf := hft c1
      exact B170 v1_143 v2_143 σ143 _ _ _ M (lv_sub hl [0, 1, 2] rfl) hf
    · have hf := hff c1
      refine lv_iload_n hx hb dX5_drawYear_148 rfl (lv_at hl 2 rfl) ?_
      refine lv_iload_n hx hb dX5_drawYear_149 rfl (lv_at hl 3 rfl) ?_
      obtain ⟨hft, hff⟩ := hf
      refine lv_icmp_eq (tgt := 170) hx hb dX5_drawYear_150 (by decide) (fun c1 => ?_) (fun c1 => ?_)
      · have hf := hft c1
        exact B170 v1_143 v2_143 σ143 _ _ _ M (lv_sub hl [0, 1, 2] rfl) hf
      · have hf := hff c1
        refine lv_aload_n hx hb dX5_drawYear_153 rfl (lv_at hl 0 rfl) ?_
        refine lv_iload_n hx hb dX5_drawYear_154 rfl (lv_at hl 2 rfl) ?_
        refine lv_iload_n hx hb dX5_drawYear_155 rfl (lv_at hl 3 rfl) ?_
        refine hm_ci C M hl.1 (As := [.int v2_143, .int v3_143]) (rest := []) (hk_whyLeave l D dA o b hB v2_143 v3_143 σ143 hf) (n := 2) q2468 q2470 qs94 q140 q2471 (by decide +kernel) rfl ⟨Nat.le_of_ble_eq_true rfl, Nat.le_of_ble_eq_true rfl⟩ rfl (Nat.le_of_ble_eq_true rfl) dX5_drawYear_156 (fun r_156 σ_156 H locs hf M => ?_)
        obtain ⟨hft, hff⟩ := hf
        refine lv_if_ne (tgt := 170) hx hb dX5_drawYear_159 (by decide) (fun c1 => ?_) (fun c1 => ?_)
        · have hf := hft c1
          exact B170 v1_143 v2_143 σ_156 _ _ _ M (lv_sub hl [0, 1, 2] rfl) hf
        · have hf := hff c1
          refine lv_aload_n hx hb dX5_drawYear_162 rfl (lv_at hl 0 rfl) ?_
          refine lv_iload_n hx hb dX5_drawYear_163 rfl (lv_at hl 2 rfl) ?_
          refine lv_iload_n hx hb dX5_drawYear_164 rfl (lv_at hl 3 rfl) ?_
          refine lv_iload hx hb dX5_drawYear_165 (lv_at hl 4 rfl) ?_
          refine hm_cv C M hl.1 (As := [.int v2_143, .int v3_143, .int v4_143]) (rest := []) (hk_leaves l D dA o b hB v2_143 v3_143 v4_143 σ_156 hf) (n := 3) q2472 q2474 qs95 q140 q2475 (by decide +kernel) rfl ⟨Nat.le_of_ble_eq_true rfl, Nat.le_of_ble_eq_true rfl⟩ rfl (Nat.le_of_ble_eq_true rfl) dX5_drawYear_167 (fun σ_167 H locs hf M => ?_)
          exact B170 v1_143 v2_143 σ_167 _ _ _ M (lv_sub hl [0, 1, 2] rfl) hf
  have B114 : ∀ (v1_114 : Int32) (v2_114 : Int32) (v3_114 : Int32) (v4_114 : Int32) (σ114 : hm_S) (H : Heap) (locs : List Loc) (ls : Array Slot), hm_M D dA o b s.heap σ114 H locs → lv_has ls 5 [(0, .ref o), (1, .int v1_114), (2, .int v2_114), (3, .int v3_114), (4, .int v4_114)] → hw_drawYear_b114  v1_114 v2_114 v3_114 v4_114 σ114 Q → W p l e (hb_R 7 164) s m args below meth c H locs 0 0 QQ (F0 m 114 ls []) := by
    intro v1_114 v2_114 v3_114 v4_114 σ114 H locs ls M hl hf
    refine lv_iload_n hx hb dX5_drawYear_114 rfl (lv_at hl 1 rfl) ?_
    refine lv_iconst (v := 2) hx hb dX5_drawYear_115 rfl ?_
    obtain ⟨hft, hff⟩ := hf
    refine lv_icmp_ne (tgt := 143) hx hb dX5_drawYear_116 (by decide) (fun c1 => ?_) (fun c1 => ?_)
    · have hf := hft c1
      exact B143 v1_114 v2_114 v3_114 v4_114 σ114 _ _ _ M (lv_sub hl [0, 1, 2, 3, 4] rfl) hf
    · have hf := hff c1
      refine lv_iload_n hx hb dX5_drawYear_119 rfl (lv_at hl 2 rfl) ?_
      refine lv_iload_n hx hb dX5_drawYear_120 rfl (lv_at hl 3 rfl) ?_
      obtain ⟨hft, hff⟩ := hf
      refine lv_icmp_eq (tgt := 143) hx hb dX5_drawYear_121 (by decide) (fun c1 => ?_) (fun c1 => ?_)
      · have hf := hft c1
        exact B143 v1_114 v2_114 v3_114 v4_114 σ114 _ _ _ M (lv_sub hl [0, 1, 2, 3, 4] rfl) hf
      · have hf := hff c1
        refine lv_aload_n hx hb dX5_drawYear_124 rfl (lv_at hl 0 rfl) ?_
        refine lv_iload_n hx hb dX5_drawYear_125 rfl (lv_at hl 2 rfl) ?_
        refine lv_iload_n hx hb dX5_drawYear_126 rfl (lv_at hl 3 rfl) ?_
        refine lv_iload hx hb dX5_drawYear_127 (lv_at hl 4 rfl) ?_
        refine hm_ci C M hl.1 (As := [.int v2_114, .int v3_114, .int v4_114]) (rest := []) (hk_whyGive l D dA o b hB v2_114 v3_114 v4_114 σ114 hf) (n := 3) q2456 q2458 qs92 q140 q2459 (by decide +kernel) rfl ⟨Nat.le_of_ble_eq_true rfl, Nat.le_of_ble_eq_true rfl⟩ rfl (Nat.le_of_ble_eq_true rfl) dX5_drawYear_129 (fun r_129 σ_129 H locs hf M => ?_)
        obtain ⟨hft, hff⟩ := hf
        refine lv_if_ne (tgt := 143) hx hb dX5_drawYear_132 (by decide) (fun c1 => ?_) (fun c1 => ?_)
        · have hf := hft c1
          exact B143 v1_114 v2_114 v3_114 v4_114 σ_129 _ _ _ M (lv_sub hl [0, 1, 2, 3, 4] rfl) hf
        · have hf := hff c1
          refine lv_aload_n hx hb dX5_drawYear_135 rfl (lv_at hl 0 rfl) ?_
          refine lv_iload_n hx hb dX5_drawYear_136 rfl (lv_at hl 2 rfl) ?_
          refine lv_iload_n hx hb dX5_drawYear_137 rfl (lv_at hl 3 rfl) ?_
          refine lv_iload hx hb dX5_drawYear_138 (lv_at hl 4 rfl) ?_
          refine hm_cv C M hl.1 (As := [.int v2_114, .int v3_114, .int v4_114]) (rest := []) (hk_gives l D dA o b hB v2_114 v3_114 v4_114 σ_129 hf) (n := 3) q2460 q2462 qs93 q140 q2463 (by decide +kernel) rfl ⟨Nat.le_of_ble_eq_true rfl, Nat.le_of_ble_eq_true rfl⟩ rfl (Nat.le_of_ble_eq_true rfl) dX5_drawYear_140 (fun σ_140 H locs hf M => ?_)
          exact B143 v1_114 v2_114 v3_114 v4_114 σ_140 _ _ _ M (lv_sub hl [0, 1, 2, 3, 4] rfl) hf
  have B89 : ∀ (v1_89 : Int32) (v2_89 : Int32) (v3_89 : Int32) (v4_89 : Int32) (σ89 : hm_S) (H : Heap) (locs : List Loc) (ls : Array Slot), hm_M D dA o b s.heap σ89 H locs → lv_has ls 5 [(0, .ref o), (1, .int v1_89), (2, .int v2_89), (3, .int v3_89), (4, .int v4_89)] → hw_drawYear_b89  v1_89 v2_89 v3_89 v4_89 σ89 Q → W p l e (hb_R 7 164) s m args below meth c H locs 0 0 QQ (F0 m 89 ls []) := by
    intro v1_89 v2_89 v3_89 v4_89 σ89 H locs ls M hl hf
    refine lv_iload_n hx hb dX5_drawYear_89 rfl (lv_at hl 1 rfl) ?_
    refine lv_iconst (v := 1) hx hb dX5_drawYear_90 rfl ?_
    obtain ⟨hft, hff⟩ := hf
    refine lv_icmp_ne (tgt := 114) hx hb dX5_drawYear_91 (by decide) (fun c1 => ?_) (fun c1 => ?_)
    · have hf := hft c1
      exact B114 v1_89 v2_89 v3_89 v4_89 σ89 _ _ _ M (lv_sub hl [0, 1, 2, 3, 4] rfl) hf
    · have hf := hff c1
      refine lv_iload_n hx hb dX5_drawYear_94 rfl (lv_at hl 2 rfl) ?_
      refine lv_iload_n hx hb dX5_drawYear_95 rfl (lv_at hl 3 rfl) ?_
      obtain ⟨hft, hff⟩ := hf
      refine lv_icmp_eq (tgt := 114) hx hb dX5_drawYear_96 (by decide) (fun c1 => ?_) (fun c1 => ?_)
      · have hf := hft c1
        exact B114 v1_89 v2_89 v3_89 v4_89 σ89 _ _ _ M (lv_sub hl [0, 1, 2, 3, 4] rfl) hf
      · have hf := hff c1
        refine lv_aload_n hx hb dX5_drawYear_99 rfl (lv_at hl 0 rfl) ?_
        refine lv_iload_n hx hb dX5_drawYear_100 rfl (lv_at hl 2 rfl) ?_
        refine lv_iload_n hx hb dX5_drawYear_101 rfl (lv_at hl 3 rfl) ?_
        refine hm_ci C M hl.1 (As := [.int v2_89, .int v3_89]) (rest := []) (hk_whyWed l D dA o b hB v2_89 v3_89 σ89 hf) (n := 2) q2440 q2442 qs90 q140 q2443 (by decide +kernel) rfl ⟨Nat.le_of_ble_eq_true rfl, Nat.le_of_ble_eq_true rfl⟩ rfl (Nat.le_of_ble_eq_true rfl) dX5_drawYear_102 (fun r_102 σ_102 H locs hf M => ?_)
        obtain ⟨hft, hff⟩ := hf
        refine lv_if_ne (tgt := 114) hx hb dX5_drawYear_105 (by decide) (fun c1 => ?_) (fun c1 => ?_)
        · have hf := hft c1
          exact B114 v1_89 v2_89 v3_89 v4_89 σ_102 _ _ _ M (lv_sub hl [0, 1, 2, 3, 4] rfl) hf
        · have hf := hff c1
          refine lv_aload_n hx hb dX5_drawYear_108 rfl (lv_at hl 0 rfl) ?_
          refine lv_iload_n hx hb dX5_drawYear_109 rfl (lv_at hl 2 rfl) ?_
          refine lv_iload_n hx hb dX5_drawYear_110 rfl (lv_at hl 3 rfl) ?_
          refine hm_cv C M hl.1 (As := [.int v2_89, .int v3_89]) (rest := []) (hk_weds l D dA o b hB v2_89 v3_89 σ_102 hf) (n := 2) q2444 q2446 qs91 q140 q2447 (by decide +kernel) rfl ⟨Nat.le_of_ble_eq_true rfl, Nat.le_of_ble_eq_true rfl⟩ rfl (Nat.le_of_ble_eq_true rfl) dX5_drawYear_111 (fun σ_111 H locs hf M => ?_)
          exact B114 v1_89 v2_89 v3_89 v4_89 σ_111 _ _ _ M (lv_sub hl [0, 1, 2, 3, 4] rfl) hf
  have B70 : ∀ (v1_70 : Int32) (v2_70 : Int32) (v3_70 : Int32) (t0_70 : Int32) (σ70 : hm_S) (H : Heap) (locs : List Loc) (ls : Array Slot), hm_M D dA o b s.heap σ70 H locs → lv_has ls 5 [(0, .ref o), (1, .int v1_70), (2, .int v2_70), (3, .int v3_70)] → hw_drawYear_b70  v1_70 v2_70 v3_70 t0_70 σ70 Q → W p l e (hb_R 7 164) s m args below meth c H locs 0 0 QQ (F0 m 70 ls [.int t0_70]) := by
    intro v1_70 v2_70 v3_70 t0_70 σ70 H locs ls M hl hf
    refine lv_istore (lv' := [(4, .int t0_70), (0, .ref o), (1, .int v1_70), (2, .int v2_70), (3, .int v3_70)]) hx hb dX5_drawYear_70 hl (by decide) rfl (fun ls hl => ?_)
    refine lv_iload_n hx hb dX5_drawYear_72 rfl (lv_at hl 2 rfl) ?_
    obtain ⟨hft, hff⟩ := hf
    refine lv_if_ne (tgt := 89) hx hb dX5_drawYear_73 (by decide) (fun c1 => ?_) (fun c1 => ?_)
    · have hf := hft c1
      exact B89 v1_70 v2_70 v3_70 t0_70 σ70 _ _ _ M (lv_sub hl [1, 2, 3, 4, 0] rfl) hf
    · have hf := hff c1
      refine lv_aload_n hx hb dX5_drawYear_76 rfl (lv_at hl 1 rfl) ?_
      refine lv_iload_n hx hb dX5_drawYear_77 rfl (lv_at hl 3 rfl) ?_
      refine hm_ci C M hl.1 (As := [.int v2_70]) (rest := []) (hk_isLiving l D dA o b hB v2_70 σ70 hf) (n := 1) q2341 q2343 qs71 q140 q2344 (by decide +kernel) rfl ⟨Nat.le_of_ble_eq_true rfl, Nat.le_of_ble_eq_true rfl⟩ rfl (Nat.le_of_ble_eq_true rfl) dX5_drawYear_78 (fun r_78 σ_78 H locs hf M => ?_)
      obtain ⟨hft, hff⟩ := hf
      refine lv_if_eq (tgt := 89) hx hb dX5_drawYear_81 (by decide) (fun c1 => ?_) (fun c1 => ?_)
      · have hf := hft c1
        exact B89 v1_70 v2_70 v3_70 t0_70 σ_78 _ _ _ M (lv_sub hl [1, 2, 3, 4, 0] rfl) hf
      · have hf := hff c1
        refine lv_aload_n hx hb dX5_drawYear_84 rfl (lv_at hl 1 rfl) ?_
        refine lv_iload_n hx hb dX5_drawYear_85 rfl (lv_at hl 3 rfl) ?_
        refine hm_cv C M hl.1 (As := [.int v2_70]) (rest := []) (hk_dies l D dA o b hB v2_70 σ_78 hf) (n := 1) q2397 q2399 qs81 q140 q2400 (by decide +kernel) rfl ⟨Nat.le_of_ble_eq_true rfl, Nat.le_of_ble_eq_true rfl⟩ rfl (Nat.le_of_ble_eq_true rfl) dX5_drawYear_86 (fun σ_86 H locs hf M => ?_)
        exact B89 v1_70 v2_70 v3_70 t0_70 σ_86 _ _ _ M (lv_sub hl [1, 2, 3, 4, 0] rfl) hf
  have B58 : ∀ (v1_58 : Int32) (v2_58 : Int32) (v3_58 : Int32) (σ58 : hm_S) (H : Heap) (locs : List Loc) (ls : Array Slot), hm_M D dA o b s.heap σ58 H locs → lv_has ls 5 [(0, .ref o), (1, .int v1_58), (2, .int v2_58), (3, .int v3_58)] → hw_drawYear_b58  v1_58 v2_58 v3_58 σ58 Q → W p l e (hb_R 7 164) s m args below meth c H locs 0 0 QQ (F0 m 58 ls []) := by
    intro v1_58 v2_58 v3_58 σ58 H locs ls M hl hf
    refine lv_aload_n hx hb dX5_drawYear_58 rfl (lv_at hl 0 rfl) ?_
    refine lv_bipush (v := 50) hx hb dX5_drawYear_59 rfl ?_
    refine hm_ci C M hl.1 (As := [.int 50]) (rest := []) (hk_draw l D dA o b hB 50 σ58 hf) (n := 1) q2635 q2637 qs113 q140 q2638 (by decide +kernel) rfl ⟨Nat.le_of_ble_eq_true rfl, Nat.le_of_ble_eq_true rfl⟩ rfl (Nat.le_of_ble_eq_true rfl) dX5_drawYear_61 (fun r_61 σ_61 H locs hf M => ?_)
    refine lv_iconst (v := 1) hx hb dX5_drawYear_64 rfl ?_
    refine lv_iadd hx hb dX5_drawYear_65 ?_
    refine lv_goto (tgt := 70) hx hb dX5_drawYear_66 (by decide) ?_
    exact B70 v1_58 v2_58 v3_58 (r_61 + 1) σ_61 _ _ _ M (lv_sub hl [0, 1, 2, 3] rfl) hf
  have B47 : ∀ (v1_47 : Int32) (v2_47 : Int32) (t0_47 : Int32) (σ47 : hm_S) (H : Heap) (locs : List Loc) (ls : Array Slot), hm_M D dA o b s.heap σ47 H locs → lv_has ls 5 [(0, .ref o), (1, .int v1_47), (2, .int v2_47)] → hw_drawYear_b47  v1_47 v2_47 t0_47 σ47 Q → W p l e (hb_R 7 164) s m args below meth c H locs 0 0 QQ (F0 m 47 ls [.int t0_47]) := by
    intro v1_47 v2_47 t0_47 σ47 H locs ls M hl hf
    refine lv_istore_n (lv' := [(3, .int t0_47), (0, .ref o), (1, .int v1_47), (2, .int v2_47)]) hx hb dX5_drawYear_47 rfl hl (by decide) rfl (fun ls hl => ?_)
    refine lv_iload_n hx hb dX5_drawYear_48 rfl (lv_at hl 2 rfl) ?_
    refine lv_iconst (v := 2) hx hb dX5_drawYear_49 rfl ?_
    obtain ⟨hft, hff⟩ := hf
    refine lv_icmp_eq (tgt := 58) hx hb dX5_drawYear_50 (by decide) (fun c1 => ?_) (fun c1 => ?_)
    · have hf := hft c1
      exact B58 v1_47 v2_47 t0_47 σ47 _ _ _ M (lv_sub hl [1, 2, 3, 0] rfl) hf
    · have hf := hff c1
      refine lv_iload_n hx hb dX5_drawYear_53 rfl (lv_at hl 2 rfl) ?_
      refine lv_iconst (v := 3) hx hb dX5_drawYear_54 rfl ?_
      obtain ⟨hft, hff⟩ := hf
      refine lv_icmp_ne (tgt := 69) hx hb dX5_drawYear_55 (by decide) (fun c1 => ?_) (fun c1 => ?_)
      · have hf := hft c1
        refine lv_iconst (v := 0) hx hb dX5_drawYear_69 rfl ?_
        exact B70 v1_47 v2_47 t0_47 0 σ47 _ _ _ M (lv_sub hl [1, 2, 3, 0] rfl) hf
      · have hf := hff c1
        exact B58 v1_47 v2_47 t0_47 σ47 _ _ _ M (lv_sub hl [1, 2, 3, 0] rfl) hf
  have B33 : ∀ (v1_33 : Int32) (v2_33 : Int32) (σ33 : hm_S) (H : Heap) (locs : List Loc) (ls : Array Slot), hm_M D dA o b s.heap σ33 H locs → lv_has ls 5 [(0, .ref o), (1, .int v1_33), (2, .int v2_33)] → hw_drawYear_b33  v1_33 v2_33 σ33 Q → W p l e (hb_R 7 164) s m args below meth c H locs 0 0 QQ (F0 m 33 ls []) := by
    intro v1_33 v2_33 σ33 H locs ls M hl hf
    refine lv_iload_n hx hb dX5_drawYear_33 rfl (lv_at hl 2 rfl) ?_
    refine lv_goto (tgt := 47) hx hb dX5_drawYear_34 (by decide) ?_
    exact B47 v1_33 v2_33 v2_33 σ33 _ _ _ M (lv_sub hl [0, 1, 2] rfl) hf
  refine lv_aload_n hx hb dX5_drawYear_0 rfl (lv_at hl 0 rfl) ?_
  refine lv_bipush (v := 10) hx hb dX5_drawYear_1 rfl ?_
  refine hm_ci C M hl.1 (As := [.int 10]) (rest := []) (hk_draw l D dA o b hB 10 σ hf) (n := 1) q2635 q2637 qs113 q140 q2638 (by decide +kernel) rfl ⟨Nat.le_of_ble_eq_true rfl, Nat.le_of_ble_eq_true rfl⟩ rfl (Nat.le_of_ble_eq_true rfl) dX5_drawYear_3 (fun r_3 σ_3 H locs hf M => ?_)
  refine lv_istore_n (lv' := [(1, .int r_3), (0, .ref o)]) hx hb dX5_drawYear_6 rfl hl (by decide) rfl (fun ls hl => ?_)
  refine lv_iload_n hx hb dX5_drawYear_7 rfl (lv_at hl 0 rfl) ?_
  refine lv_iconst (v := 4) hx hb dX5_drawYear_8 rfl ?_
  obtain ⟨hft, hff⟩ := hf
  refine lv_icmp_le (tgt := 13) hx hb dX5_drawYear_9 (by decide) (fun c1 => ?_) (fun c1 => ?_)
  · have hf := hft c1
    refine lv_aload_n hx hb dX5_drawYear_13 rfl (lv_at hl 1 rfl) ?_
    refine lv_aload_n hx hb dX5_drawYear_14 rfl (lv_at hl 1 rfl) ?_
    refine hm_get C M 6 (by decide) q2073 (v := .ref (b 6)) rfl dX5_drawYear_15 ?_
    refine lv_iconst (v := 0) hx hb dX5_drawYear_18 rfl ?_
    obtain ⟨g1, hf⟩ := hf
    refine hm_ald6 C M g1 dX5_drawYear_19 ?_
    refine hm_ci C M hl.1 (As := [.int (hm_gA σ_3 6 0)]) (rest := []) (hk_draw l D dA o b hB (hm_gA σ_3 6 0) σ_3 hf) (n := 1) q2635 q2637 qs113 q140 q2638 (by decide +kernel) rfl ⟨Nat.le_of_ble_eq_true rfl, Nat.le_of_ble_eq_true rfl⟩ rfl (Nat.le_of_ble_eq_true rfl) dX5_drawYear_20 (fun r_20 σ_20 H locs hf M => ?_)
    refine lv_istore_n (lv' := [(2, .int r_20), (1, .int r_3), (0, .ref o)]) hx hb dX5_drawYear_23 rfl hl (by decide) rfl (fun ls hl => ?_)
    refine lv_iload_n hx hb dX5_drawYear_24 rfl (lv_at hl 1 rfl) ?_
    obtain ⟨hft, hff⟩ := hf
    refine lv_if_eq (tgt := 33) hx hb dX5_drawYear_25 (by decide) (fun c1 => ?_) (fun c1 => ?_)
    · have hf := hft c1
      exact B33 r_3 r_20 σ_20 _ _ _ M (lv_sub hl [2, 1, 0] rfl) hf
    · have hf := hff c1
      refine lv_iload_n hx hb dX5_drawYear_28 rfl (lv_at hl 1 rfl) ?_
      refine lv_iconst (v := 4) hx hb dX5_drawYear_29 rfl ?_
      obtain ⟨hft, hff⟩ := hf
      refine lv_icmp_ne (tgt := 37) hx hb dX5_drawYear_30 (by decide) (fun c1 => ?_) (fun c1 => ?_)
      · have hf := hft c1
        refine lv_aload_n hx hb dX5_drawYear_37 rfl (lv_at hl 2 rfl) ?_
        refine lv_aload_n hx hb dX5_drawYear_38 rfl (lv_at hl 2 rfl) ?_
        refine hm_get C M 6 (by decide) q2073 (v := .ref (b 6)) rfl dX5_drawYear_39 ?_
        refine lv_iconst (v := 0) hx hb dX5_drawYear_42 rfl ?_
        obtain ⟨g1, hf⟩ := hf
        refine hm_ald6 C M g1 dX5_drawYear_43 ?_
        refine hm_ci C M hl.1 (As := [.int (hm_gA σ_20 6 0)]) (rest := []) (hk_draw l D dA o b hB (hm_gA σ_20 6 0) σ_20 hf) (n := 1) q2635 q2637 qs113 q140 q2638 (by decide +kernel) rfl ⟨Nat.le_of_ble_eq_true rfl, Nat.le_of_ble_eq_true rfl⟩ rfl (Nat.le_of_ble_eq_true rfl) dX5_drawYear_44 (fun r_44 σ_44 H locs hf M => ?_)
        exact B47 r_3 r_20 r_44 σ_44 _ _ _ M (lv_sub hl [2, 1, 0] rfl) hf
      · have hf := hff c1
        exact B33 r_3 r_20 σ_20 _ _ _ M (lv_sub hl [2, 1, 0] rfl) hf
  · have hf := hff c1
    exact hret _ _ _ _ _ dX5_drawYear_12 M hf
def hw_draws_b7 : Nat → Int32 → Int32 → hm_S → (Int32 → hm_S → Prop) → Prop
  | 0, _, _, _, _ => False
  | n7 + 1, v1_7, v3_7, σ7, Q => (v1_7 ≤ v3_7 → Q v3_7 σ7) ∧ (¬ v1_7 ≤ v3_7 → vp_in 100 346 ∧ ((199 ≤ (hm_gA σ7 6 100) → Q v3_7 σ7) ∧ (¬ 199 ≤ (hm_gA σ7 6 100) → vp_in 0 346 ∧ (((hm_gA σ7 6 0) ≤ 0 → hw_year  σ7 (fun σ_39 => (hw_draws_b7  n7 v1_7 (v3_7 + 1) σ_39 Q))) ∧ (¬ (hm_gA σ7 6 0) ≤ 0 → hw_drawYear  σ7 (fun σ_35 => (hw_year  σ_35 (fun σ_39 => (hw_draws_b7  n7 v1_7 (v3_7 + 1) σ_39 Q)))))))))
def hw_draws (a1 : Int32) (a2 : Int32) (σ : hm_S) (Q : Int32 → hm_S → Prop) : Prop := ∃ n, hw_draws_b7  n a1 0 (hm_sI σ 38 a2) Q
set_option maxHeartbeats 4000000 in
set_option maxRecDepth 100000 in
theorem hk_draws (l : Launch) (D : va_G) (dA : Nat → ClassId) (o : Nat) (b : Nat → Nat) (hB : hm_D dA o b) (a1 : Int32) (a2 : Int32) (σ : hm_S) {Q : Int32 → hm_S → Prop} (hf : hw_draws a1 a2 σ Q) : Met l yX5_draws (ws_ yX5_draws cX5_draws 4 (some .int)) (hb_R 8 188) (va_Pc [.ref o, .int a1, .int a2] (hm_U D dA o b σ)) (va_Qi Q (hm_U D dA o b) (hm_A o b)) 0 0 (hm_A o b) := by
  refine hm_Mi hB (LV := [(0, .ref o), (1, .int a1), (2, .int a2)]) (by decide) rfl (Nat.le_of_ble_eq_true rfl) (fun p e s m args below meth c ls QQ C M hl hret => ?_)
  have hx := C.1.1
  have hb := C.1.2.1
  have B7 : ∀ (n7 : Nat) (v1_7 : Int32) (v3_7 : Int32) (σ7 : hm_S) (H : Heap) (locs : List Loc) (ls : Array Slot), hm_M D dA o b s.heap σ7 H locs → lv_has ls 4 [(0, .ref o), (1, .int v1_7), (3, .int v3_7)] → hw_draws_b7  n7 v1_7 v3_7 σ7 Q → W p l e (hb_R 8 188) s m args below meth c H locs 0 0 QQ (F0 m 7 ls []) := by
    intro n7
    induction n7 with
    | zero => intro v1_7 v3_7 σ7 H locs ls M hl hf; exact hf.elim
    | succ n7 ih7 =>
      intro v1_7 v3_7 σ7 H locs ls M hl hf
      refine lv_iload_n hx hb dX5_draws_7 rfl (lv_at hl 2 rfl) ?_
      refine lv_iload_n hx hb dX5_draws_8 rfl (lv_at hl 1 rfl) ?_
      obtain ⟨hft, hff⟩ := hf
      refine lv_icmp_ge (tgt := 48) hx hb dX5_draws_9 (by decide) (fun c1 => ?_) (fun c1 => ?_)
      · have hf := hft c1
        refine lv_iload_n hx hb dX5_draws_48 rfl (lv_at hl 2 rfl) ?_
        exact hret _ _ _ _ _ _ dX5_draws_49 M hf
      · have hf := hff c1
        refine lv_aload_n hx hb dX5_draws_12 rfl (lv_at hl 0 rfl) ?_
        refine hm_get C M 6 (by decide) q2073 (v := .ref (b 6)) rfl dX5_draws_13 ?_
        refine lv_bipush (v := 100) hx hb dX5_draws_16 rfl ?_
        obtain ⟨g1, hf⟩ := hf
        refine hm_ald6 C M g1 dX5_draws_18 ?_
        refine lv_sipush (v := 199) hx hb dX5_draws_19 rfl ?_
        obtain ⟨hft, hff⟩ := hf
        refine lv_icmp_ge (tgt := 48) hx hb dX5_draws_22 (by decide) (fun c1 => ?_) (fun c1 => ?_)
        · have hf := hft c1
          refine lv_iload_n hx hb dX5_draws_48 rfl (lv_at hl 2 rfl) ?_
          exact hret _ _ _ _ _ _ dX5_draws_49 M hf
        · have hf := hff c1
          refine lv_aload_n hx hb dX5_draws_25 rfl (lv_at hl 0 rfl) ?_
          refine hm_get C M 6 (by decide) q2073 (v := .ref (b 6)) rfl dX5_draws_26 ?_
          refine lv_iconst (v := 0) hx hb dX5_draws_29 rfl ?_
          obtain ⟨g1, hf⟩ := hf
          refine hm_ald6 C M g1 dX5_draws_30 ?_
          obtain ⟨hft, hff⟩ := hf
          refine lv_if_le (tgt := 38) hx hb dX5_draws_31 (by decide) (fun c1 => ?_) (fun c1 => ?_)
          · have hf := hft c1
            refine lv_aload_n hx hb dX5_draws_38 rfl (lv_at hl 0 rfl) ?_
            refine hm_cv C M hl.1 (As := []) (rest := []) (hk_year l D dA o b hB  σ7 hf) (n := 0) q2488 q2490 qs97 q140 q2491 (by decide +kernel) rfl ⟨Nat.le_of_ble_eq_true rfl, Nat.le_of_ble_eq_true rfl⟩ rfl (Nat.le_of_ble_eq_true rfl) dX5_draws_39 (fun σ_39 H locs hf M => ?_)
            refine lv_iinc (v := v3_7 + 1) (lv' := [(3, .int (v3_7 + 1)), (0, .ref o), (1, .int v1_7)]) hx hb dX5_draws_42 hl (k := 2) rfl rfl (by decide) rfl (fun ls hl => ?_)
            refine lv_goto (tgt := 7) hx hb dX5_draws_45 (by decide) ?_
            exact ih7 v1_7 (v3_7 + 1) σ_39 _ _ _ M (lv_sub hl [1, 2, 0] rfl) hf
          · have hf := hff c1
            refine lv_aload_n hx hb dX5_draws_34 rfl (lv_at hl 0 rfl) ?_
            refine hm_cv C M hl.1 (As := []) (rest := []) (hk_drawYear l D dA o b hB  σ7 hf) (n := 0) q2631 q2633 qs112 q140 q2634 (by decide +kernel) rfl ⟨Nat.le_of_ble_eq_true rfl, Nat.le_of_ble_eq_true rfl⟩ rfl (Nat.le_of_ble_eq_true rfl) dX5_draws_35 (fun σ_35 H locs hf M => ?_)
            refine lv_aload_n hx hb dX5_draws_38 rfl (lv_at hl 0 rfl) ?_
            refine hm_cv C M hl.1 (As := []) (rest := []) (hk_year l D dA o b hB  σ_35 hf) (n := 0) q2488 q2490 qs97 q140 q2491 (by decide +kernel) rfl ⟨Nat.le_of_ble_eq_true rfl, Nat.le_of_ble_eq_true rfl⟩ rfl (Nat.le_of_ble_eq_true rfl) dX5_draws_39 (fun σ_39 H locs hf M => ?_)
            refine lv_iinc (v := v3_7 + 1) (lv' := [(3, .int (v3_7 + 1)), (0, .ref o), (1, .int v1_7)]) hx hb dX5_draws_42 hl (k := 2) rfl rfl (by decide) rfl (fun ls hl => ?_)
            refine lv_goto (tgt := 7) hx hb dX5_draws_45 (by decide) ?_
            exact ih7 v1_7 (v3_7 + 1) σ_39 _ _ _ M (lv_sub hl [1, 2, 0] rfl) hf
  refine lv_aload_n hx hb dX5_draws_0 rfl (lv_at hl 0 rfl) ?_
  refine lv_iload_n hx hb dX5_draws_1 rfl (lv_at hl 2 rfl) ?_
  refine hm_put38 C M q2105 dX5_draws_2 (fun H locs M => ?_)
  refine lv_iconst (v := 0) hx hb dX5_draws_5 rfl ?_
  refine lv_istore_n (lv' := [(3, .int 0), (0, .ref o), (1, .int a1), (2, .int a2)]) hx hb dX5_draws_6 rfl hl (by decide) rfl (fun ls hl => ?_)
  obtain ⟨nn, hf⟩ := hf
  exact B7 nn a1 0 (hm_sI σ 38 a2) _ _ _ M (lv_sub hl [1, 2, 0] rfl) hf
def hw_drawn (a1 : Int32) (a2 : Int32) (σ : hm_S) (Q : Int32 → hm_S → Prop) : Prop := hw_isIn a1 1 60 (hm_sI σ 0 0) (fun r_9 σ_9 => ((¬ r_9 = 0 → vp_in 100 346 ∧ ((199 ≤ (hm_gA σ_9 6 100) → hw_draws a1 a2 σ_9 (fun r_37 σ_37 => (Q r_37 σ_37))) ∧ (¬ 199 ≤ (hm_gA σ_9 6 100) → hw_stores  σ_9 (fun σ_31 => (hw_draws a1 a2 σ_31 (fun r_37 σ_37 => (Q r_37 σ_37))))))) ∧ (r_9 = 0 → Q (-1) σ_9)))
set_option maxHeartbeats 4000000 in
set_option maxRecDepth 100000 in
theorem hk_drawn (l : Launch) (D : va_G) (dA : Nat → ClassId) (o : Nat) (b : Nat → Nat) (hB : hm_D dA o b) (a1 : Int32) (a2 : Int32) (σ : hm_S) {Q : Int32 → hm_S → Prop} (hf : hw_drawn a1 a2 σ Q) : Met l yX5_drawn (ws_ yX5_drawn cX5_drawn 3 (some .int)) (hb_R 9 211) (va_Pc [.ref o, .int a1, .int a2] (hm_U D dA o b σ)) (va_Qi Q (hm_U D dA o b) (hm_A o b)) 0 0 (hm_A o b) := by
  refine hm_Mi hB (LV := [(0, .ref o), (1, .int a1), (2, .int a2)]) (by decide) rfl (Nat.le_of_ble_eq_true rfl) (fun p e s m args below meth c ls QQ C M hl hret => ?_)
  have hx := C.1.1
  have hb := C.1.2.1
  refine lv_aload_n hx hb dX5_drawn_0 rfl (lv_at hl 0 rfl) ?_
  refine lv_iconst (v := 0) hx hb dX5_drawn_1 rfl ?_
  refine hm_put0 C M q2067 dX5_drawn_2 (fun H locs M => ?_)
  refine lv_iload_n hx hb dX5_drawn_5 rfl (lv_at hl 1 rfl) ?_
  refine lv_iconst (v := 1) hx hb dX5_drawn_6 rfl ?_
  refine lv_bipush (v := 60) hx hb dX5_drawn_7 rfl ?_
  refine hm_csi C M hl.1 (As := [.int a1, .int 1, .int 60]) (rest := []) (hk_isIn l D dA o b hB a1 1 60 (hm_sI σ 0 0) hf) (n := 3) q2280 q2281 q140 q2282 (by decide +kernel) rfl ⟨Nat.le_of_ble_eq_true rfl, Nat.le_of_ble_eq_true rfl⟩ rfl (Nat.le_of_ble_eq_true rfl) dX5_drawn_9 (fun r_9 σ_9 H locs hf M => ?_)
  obtain ⟨hft, hff⟩ := hf
  refine lv_if_ne (tgt := 17) hx hb dX5_drawn_12 (by decide) (fun c1 => ?_) (fun c1 => ?_)
  · have hf := hft c1
    refine lv_aload_n hx hb dX5_drawn_17 rfl (lv_at hl 0 rfl) ?_
    refine hm_get C M 6 (by decide) q2073 (v := .ref (b 6)) rfl dX5_drawn_18 ?_
    refine lv_bipush (v := 100) hx hb dX5_drawn_21 rfl ?_
    obtain ⟨g1, hf⟩ := hf
    refine hm_ald6 C M g1 dX5_drawn_23 ?_
    refine lv_sipush (v := 199) hx hb dX5_drawn_24 rfl ?_
    obtain ⟨hft, hff⟩ := hf
    refine lv_icmp_ge (tgt := 34) hx hb dX5_drawn_27 (by decide) (fun c1 => ?_) (fun c1 => ?_)
    · have hf := hft c1
      refine lv_aload_n hx hb dX5_drawn_34 rfl (lv_at hl 0 rfl) ?_
      refine lv_iload_n hx hb dX5_drawn_35 rfl (lv_at hl 1 rfl) ?_
      refine lv_iload_n hx hb dX5_drawn_36 rfl (lv_at hl 2 rfl) ?_
      refine hm_ci C M hl.1 (As := [.int a1, .int a2]) (rest := []) (hk_draws l D dA o b hB a1 a2 σ_9 hf) (n := 2) q2627 q2629 qs111 q140 q2630 (by decide +kernel) rfl ⟨Nat.le_of_ble_eq_true rfl, Nat.le_of_ble_eq_true rfl⟩ rfl (Nat.le_of_ble_eq_true rfl) dX5_drawn_37 (fun r_37 σ_37 H locs hf M => ?_)
      exact hret _ _ _ _ _ _ dX5_drawn_40 M hf
    · have hf := hff c1
      refine lv_aload_n hx hb dX5_drawn_30 rfl (lv_at hl 0 rfl) ?_
      refine hm_cv C M hl.1 (As := []) (rest := []) (hk_stores l D dA o b hB  σ_9 hf) (n := 0) q2393 q2395 qs80 q140 q2396 (by decide +kernel) rfl ⟨Nat.le_of_ble_eq_true rfl, Nat.le_of_ble_eq_true rfl⟩ rfl (Nat.le_of_ble_eq_true rfl) dX5_drawn_31 (fun σ_31 H locs hf M => ?_)
      refine lv_aload_n hx hb dX5_drawn_34 rfl (lv_at hl 0 rfl) ?_
      refine lv_iload_n hx hb dX5_drawn_35 rfl (lv_at hl 1 rfl) ?_
      refine lv_iload_n hx hb dX5_drawn_36 rfl (lv_at hl 2 rfl) ?_
      refine hm_ci C M hl.1 (As := [.int a1, .int a2]) (rest := []) (hk_draws l D dA o b hB a1 a2 σ_31 hf) (n := 2) q2627 q2629 qs111 q140 q2630 (by decide +kernel) rfl ⟨Nat.le_of_ble_eq_true rfl, Nat.le_of_ble_eq_true rfl⟩ rfl (Nat.le_of_ble_eq_true rfl) dX5_drawn_37 (fun r_37 σ_37 H locs hf M => ?_)
      exact hret _ _ _ _ _ _ dX5_drawn_40 M hf
  · have hf := hff c1
    refine lv_iconst (v := (-1)) hx hb dX5_drawn_15 rfl ?_
    exact hret _ _ _ _ _ _ dX5_drawn_16 M hf
def hw_odds_b35 : Nat → Int32 → Int32 → Int32 → Int32 → Int32 → hm_S → (Int32 → hm_S → Prop) → Prop
  | 0, _, _, _, _, _, _, _ => False
  | n35 + 1, v1_35, v2_35, v3_35, v4_35, v5_35, σ35, Q => (v2_35 ≤ v5_35 → Q v4_35 σ35) ∧ (¬ v2_35 ≤ v5_35 → hw_draws 10 (v3_35 + v5_35) σ35 (fun r_48 σ_48 => (hw_isLiving v1_35 σ_48 (fun r_56 σ_56 => ((r_56 = 0 → hw_back  σ_56 (fun σ_79 => (hw_odds_b35  n35 v1_35 v2_35 v3_35 (v4_35 + 0) (v5_35 + 1) σ_79 Q))) ∧ (¬ r_56 = 0 → hw_richestNow  σ_56 (fun r_63 σ_63 => ((¬ r_63 = v1_35 → hw_back  σ_63 (fun σ_79 => (hw_odds_b35  n35 v1_35 v2_35 v3_35 (v4_35 + 0) (v5_35 + 1) σ_79 Q))) ∧ (r_63 = v1_35 → hw_back  σ_63 (fun σ_79 => (hw_odds_b35  n35 v1_35 v2_35 v3_35 (v4_35 + 1) (v5_35 + 1) σ_79 Q)))))))))))
def hw_odds (a1 : Int32) (a2 : Int32) (a3 : Int32) (σ : hm_S) (Q : Int32 → hm_S → Prop) : Prop := hw_isPerson a1 (hm_sI σ 0 0) (fun r_7 σ_7 => ((r_7 = 0 → Q (-1) σ_7) ∧ (¬ r_7 = 0 → hw_isIn a2 1 30 σ_7 (fun r_17 σ_17 => ((¬ r_17 = 0 → hw_tries  σ_17 (fun σ_26 => (∃ n, hw_odds_b35  n a1 a2 a3 0 0 σ_26 Q))) ∧ (r_17 = 0 → Q (-1) σ_17))))))
set_option maxHeartbeats 4000000 in
set_option maxRecDepth 100000 in
theorem hk_odds (l : Launch) (D : va_G) (dA : Nat → ClassId) (o : Nat) (b : Nat → Nat) (hB : hm_D dA o b) (a1 : Int32) (a2 : Int32) (a3 : Int32) (σ : hm_S) {Q : Int32 → hm_S → Prop} (hf : hw_odds a1 a2 a3 σ Q) : Met l yX5_odds (ws_ yX5_odds cX5_odds 6 (some .int)) (hb_R 9 211) (va_Pc [.ref o, .int a1, .int a2, .int a3] (hm_U D dA o b σ)) (va_Qi Q (hm_U D dA o b) (hm_A o b)) 0 0 (hm_A o b) := by
  refine hm_Mi hB (LV := [(0, .ref o), (1, .int a1), (2, .int a2), (3, .int a3)]) (by decide) rfl (Nat.le_of_ble_eq_true rfl) (fun p e s m args below meth c ls QQ C M hl hret => ?_)
  have hx := C.1.1
  have hb := C.1.2.1
  have B35 : ∀ (n35 : Nat) (v1_35 : Int32) (v2_35 : Int32) (v3_35 : Int32) (v4_35 : Int32) (v5_35 : Int32) (σ35 : hm_S) (H : Heap) (locs : List Loc) (ls : Array Slot), hm_M D dA o b s.heap σ35 H locs → lv_has ls 6 [(0, .ref o), (1, .int v1_35), (2, .int v2_35), (3, .int v3_35), (4, .int v4_35), (5, .int v5_35)] → hw_odds_b35  n35 v1_35 v2_35 v3_35 v4_35 v5_35 σ35 Q → W p l e (hb_R 9 211) s m args below meth c H locs 0 0 QQ (F0 m 35 ls []) := by
    intro n35
    induction n35 with
    | zero => intro v1_35 v2_35 v3_35 v4_35 v5_35 σ35 H locs ls M hl hf; exact hf.elim
    | succ n35 ih35 =>
      intro v1_35 v2_35 v3_35 v4_35 v5_35 σ35 H locs ls M hl hf
      refine lv_iload hx hb dX5_odds_35 (lv_at hl 5 rfl) ?_
      refine lv_iload_n hx hb dX5_odds_37 rfl (lv_at hl 2 rfl) ?_
      obtain ⟨hft, hff⟩ := hf
      refine lv_icmp_ge (tgt := 88) hx hb dX5_odds_38 (by decide) (fun c1 => ?_) (fun c1 => ?_)
      · have hf := hft c1
        refine lv_iload hx hb dX5_odds_88 (lv_at hl 4 rfl) ?_
        exact hret _ _ _ _ _ _ dX5_odds_90 M hf
      · have hf := hff c1
        refine lv_aload_n hx hb dX5_odds_41 rfl (lv_at hl 0 rfl) ?_
        refine lv_bipush (v := 10) hx hb dX5_odds_42 rfl ?_
        refine lv_iload_n hx hb dX5_odds_44 rfl (lv_at hl 3 rfl) ?_
        refine lv_iload hx hb dX5_odds_45 (lv_at hl 5 rfl) ?_
        refine lv_iadd hx hb dX5_odds_47 ?_
        refine hm_ci C M hl.1 (As := [.int 10, .int (v3_35 + v5_35)]) (rest := []) (hk_draws l D dA o b hB 10 (v3_35 + v5_35) σ35 hf) (n := 2) q2627 q2629 qs111 q140 q2630 (by decide +kernel) rfl ⟨Nat.le_of_ble_eq_true rfl, Nat.le_of_ble_eq_true rfl⟩ rfl (Nat.le_of_ble_eq_true rfl) dX5_odds_48 (fun r_48 σ_48 H locs hf M => ?_)
        refine lv_pop hx hb dX5_odds_51 rfl ?_
        refine lv_iload hx hb dX5_odds_52 (lv_at hl 4 rfl) ?_
        refine lv_aload_n hx hb dX5_odds_54 rfl (lv_at hl 0 rfl) ?_
        refine lv_iload_n hx hb dX5_odds_55 rfl (lv_at hl 1 rfl) ?_
        refine hm_ci C M hl.1 (As := [.int v1_35]) (rest := [.int v4_35]) (hk_isLiving l D dA o b hB v1_35 σ_48 hf) (n := 1) q2341 q2343 qs71 q140 q2344 (by decide +kernel) rfl ⟨Nat.le_of_ble_eq_true rfl, Nat.le_of_ble_eq_true rfl⟩ rfl (Nat.le_of_ble_eq_true rfl) dX5_odds_56 (fun r_56 σ_56 H locs hf M => ?_)
        obtain ⟨hft, hff⟩ := hf
        refine lv_if_eq (tgt := 74) hx hb dX5_odds_59 (by decide) (fun c1 => ?_) (fun c1 => ?_)
        · have hf := hft c1
          refine lv_iconst (v := 0) hx hb dX5_odds_74 rfl ?_
          refine lv_iadd hx hb dX5_odds_75 ?_
          refine lv_istore (lv' := [(4, .int (v4_35 + 0)), (0, .ref o), (1, .int v1_35), (2, .int v2_35), (3, .int v3_35), (5, .int v5_35)]) hx hb dX5_odds_76 hl (by decide) rfl (fun ls hl => ?_)
          refine lv_aload_n hx hb dX5_odds_78 rfl (lv_at hl 1 rfl) ?_
          refine hm_cv C M hl.1 (As := []) (rest := []) (hk_back l D dA o b hB  σ_56 hf) (n := 0) q2508 q2510 qs100 q140 q2511 (by decide +kernel) rfl ⟨Nat.le_of_ble_eq_true rfl, Nat.le_of_ble_eq_true rfl⟩ rfl (Nat.le_of_ble_eq_true rfl) dX5_odds_79 (fun σ_79 H locs hf M => ?_)
          refine lv_iinc (v := v5_35 + 1) (lv' := [(5, .int (v5_35 + 1)), (4, .int (v4_35 + 0)), (0, .ref o), (1, .int v1_35), (2, .int v2_35), (3, .int v3_35)]) hx hb dX5_odds_82 hl (k := 5) rfl rfl (by decide) rfl (fun ls hl => ?_)
          refine lv_goto (tgt := 35) hx hb dX5_odds_85 (by decide) ?_
          exact ih35 v1_35 v2_35 v3_35 (v4_35 + 0) (v5_35 + 1) σ_79 _ _ _ M (lv_sub hl [2, 3, 4, 5, 1, 0] rfl) hf
        · have hf := hff c1
          refine lv_aload_n hx hb dX5_odds_62 rfl (lv_at hl 0 rfl) ?_
          refine hm_ci C M hl.1 (As := []) (rest := [.int v4_35]) (hk_richestNow l D dA o b hB  σ_56 hf) (n := 0) q2584 q2586 qs106 q140 q2587 (by decide +kernel) rfl ⟨Nat.le_of_ble_eq_true rfl, Nat.le_of_ble_eq_true rfl⟩ rfl (Nat.le_of_ble_eq_true rfl) dX5_odds_63 (fun r_63 σ_63 H locs hf M => ?_)
          refine lv_iload_n hx hb dX5_odds_66 rfl (lv_at hl 1 rfl) ?_
          obtain ⟨hft, hff⟩ := hf
          refine lv_icmp_ne (tgt := 74) hx hb dX5_odds_67 (by decide) (fun c1 => ?_) (fun c1 => ?_)
          · have hf := hft c1
            refine lv_iconst (v := 0) hx hb dX5_odds_74 rfl ?_
            refine lv_iadd hx hb dX5_odds_75 ?_
            refine lv_istore (lv' := [(4, .int (v4_35 + 0)), (0, .ref o), (1, .int v1_35), (2, .int v2_35), (3, .int v3_35), (5, .int v5_35)]) hx hb dX5_odds_76 hl (by decide) rfl (fun ls hl => ?_)
            refine lv_aload_n hx hb dX5_odds_78 rfl (lv_at hl 1 rfl) ?_
            refine hm_cv C M hl.1 (As := []) (rest := []) (hk_back l D dA o b hB  σ_63 hf) (n := 0) q2508 q2510 qs100 q140 q2511 (by decide +kernel) rfl ⟨Nat.le_of_ble_eq_true rfl, Nat.le_of_ble_eq_true rfl⟩ rfl (Nat.le_of_ble_eq_true rfl) dX5_odds_79 (fun σ_79 H locs hf M => ?_)
            refine lv_iinc (v := v5_35 + 1) (lv' := [(5, .int (v5_35 + 1)), (4, .int (v4_35 + 0)), (0, .ref o), (1, .int v1_35), (2, .int v2_35), (3, .int v3_35)]) hx hb dX5_odds_82 hl (k := 5) rfl rfl (by decide) rfl (fun ls hl => ?_)
            refine lv_goto (tgt := 35) hx hb dX5_odds_85 (by decide) ?_
            exact ih35 v1_35 v2_35 v3_35 (v4_35 + 0) (v5_35 + 1) σ_79 _ _ _ M (lv_sub hl [2, 3, 4, 5, 1, 0] rfl) hf
          · have hf := hff c1
            refine lv_iconst (v := 1) hx hb dX5_odds_70 rfl ?_
            refine lv_goto (tgt := 75) hx hb dX5_odds_71 (by decide) ?_
            refine lv_iadd hx hb dX5_odds_75 ?_
            refine lv_istore (lv' := [(4, .int (v4_35 + 1)), (0, .ref o), (1, .int v1_35), (2, .int v2_35), (3, .int v3_35), (5, .int v5_35)]) hx hb dX5_odds_76 hl (by decide) rfl (fun ls hl => ?_)
            refine lv_aload_n hx hb dX5_odds_78 rfl (lv_at hl 1 rfl) ?_
            refine hm_cv C M hl.1 (As := []) (rest := []) (hk_back l D dA o b hB  σ_63 hf) (n := 0) q2508 q2510 qs100 q140 q2511 (by decide +kernel) rfl ⟨Nat.le_of_ble_eq_true rfl, Nat.le_of_ble_eq_true rfl⟩ rfl (Nat.le_of_ble_eq_true rfl) dX5_odds_79 (fun σ_79 H locs hf M => ?_)
            refine lv_iinc (v := v5_35 + 1) (lv' := [(5, .int (v5_35 + 1)), (4, .int (v4_35 + 1)), (0, .ref o), (1, .int v1_35), (2, .int v2_35), (3, .int v3_35)]) hx hb dX5_odds_82 hl (k := 5) rfl rfl (by decide) rfl (fun ls hl => ?_)
            refine lv_goto (tgt := 35) hx hb dX5_odds_85 (by decide) ?_
            exact ih35 v1_35 v2_35 v3_35 (v4_35 + 1) (v5_35 + 1) σ_79 _ _ _ M (lv_sub hl [2, 3, 4, 5, 1, 0] rfl) hf
  refine lv_aload_n hx hb dX5_odds_0 rfl (lv_at hl 0 rfl) ?_
  refine lv_iconst (v := 0) hx hb dX5_odds_1 rfl ?_
  refine hm_put0 C M q2067 dX5_odds_2 (fun H locs M => ?_)
  refine lv_aload_n hx hb dX5_odds_5 rfl (lv_at hl 0 rfl) ?_
  refine lv_iload_n hx hb dX5_odds_6 rfl (lv_at hl 1 rfl) ?_
  refine hm_ci C M hl.1 (As := [.int a1]) (rest := []) (hk_isPerson l D dA o b hB a1 (hm_sI σ 0 0) hf) (n := 1) q2333 q2335 qs69 q140 q2336 (by decide +kernel) rfl ⟨Nat.le_of_ble_eq_true rfl, Nat.le_of_ble_eq_true rfl⟩ rfl (Nat.le_of_ble_eq_true rfl) dX5_odds_7 (fun r_7 σ_7 H locs hf M => ?_)
  obtain ⟨hft, hff⟩ := hf
  refine lv_if_eq (tgt := 23) hx hb dX5_odds_10 (by decide) (fun c1 => ?_) (fun c1 => ?_)
  · have hf := hft c1
    refine lv_iconst (v := (-1)) hx hb dX5_odds_23 rfl ?_
    exact hret _ _ _ _ _ _ dX5_odds_24 M hf
  · have hf := hff c1
    refine lv_iload_n hx hb dX5_odds_13 rfl (lv_at hl 2 rfl) ?_
    refine lv_iconst (v := 1) hx hb dX5_odds_14 rfl ?_
    refine lv_bipush (v := 30) hx hb dX5_odds_15 rfl ?_
    refine hm_csi C M hl.1 (As := [.int a2, .int 1, .int 30]) (rest := []) (hk_isIn l D dA o b hB a2 1 30 σ_7 hf) (n := 3) q2280 q2281 q140 q2282 (by decide +kernel) rfl ⟨Nat.le_of_ble_eq_true rfl, Nat.le_of_ble_eq_true rfl⟩ rfl (Nat.le_of_ble_eq_true rfl) dX5_odds_17 (fun r_17 σ_17 H locs hf M => ?_)
    obtain ⟨hft, hff⟩ := hf
    refine lv_if_ne (tgt := 25) hx hb dX5_odds_20 (by decide) (fun c1 => ?_) (fun c1 => ?_)
    · have hf := hft c1
      refine lv_aload_n hx hb dX5_odds_25 rfl (lv_at hl 0 rfl) ?_
      refine hm_cv C M hl.1 (As := []) (rest := []) (hk_tries l D dA o b hB  σ_17 hf) (n := 0) q2504 q2506 qs99 q140 q2507 (by decide +kernel) rfl ⟨Nat.le_of_ble_eq_true rfl, Nat.le_of_ble_eq_true rfl⟩ rfl (Nat.le_of_ble_eq_true rfl) dX5_odds_26 (fun σ_26 H locs hf M => ?_)
      refine lv_iconst (v := 0) hx hb dX5_odds_29 rfl ?_
      refine lv_istore (lv' := [(4, .int 0), (0, .ref o), (1, .int a1), (2, .int a2), (3, .int a3)]) hx hb dX5_odds_30 hl (by decide) rfl (fun ls hl => ?_)
      refine lv_iconst (v := 0) hx hb dX5_odds_32 rfl ?_
      refine lv_istore (lv' := [(5, .int 0), (4, .int 0), (0, .ref o), (1, .int a1), (2, .int a2), (3, .int a3)]) hx hb dX5_odds_33 hl (by decide) rfl (fun ls hl => ?_)
      obtain ⟨nn, hf⟩ := hf
      exact B35 nn a1 a2 a3 0 0 σ_26 _ _ _ M (lv_sub hl [2, 3, 4, 5, 1, 0] rfl) hf
    · have hf := hff c1
      refine lv_iconst (v := (-1)) hx hb dX5_odds_23 rfl ?_
      exact hret _ _ _ _ _ _ dX5_odds_24 M hf
def hw_bookLine_b171 (v1_171 : Int32) (v2_171 : Int32) (t0_171 : Int32) (σ171 : hm_S) (Q : Int32 → hm_S → Prop) : Prop := vp_in (v1_171 + 1) 160 ∧ ((t0_171 = 0 → hb_B t0_171 ∧ Q t0_171 (hm_sA σ171 8 (v1_171 + 1) (hm_gI σ171 18))) ∧ (¬ t0_171 = 0 → (v2_171 = 0 → hb_B t0_171 ∧ Q t0_171 (hm_sA σ171 8 (v1_171 + 1) (hm_gI σ171 18))) ∧ (¬ v2_171 = 0 → (v2_171 = 2 → hb_B t0_171 ∧ Q t0_171 (hm_sA σ171 8 (v1_171 + 1) (hm_gI σ171 18))) ∧ (¬ v2_171 = 2 → (v2_171 ≤ 4 → vp_in 0 346 ∧ (hw_takesOther 0 (hm_gA (hm_sA σ171 8 (v1_171 + 1) (hm_gI σ171 18)) 6 0) (hm_sA σ171 8 (v1_171 + 1) (hm_gI σ171 18)) (fun r_212 σ_212 => ((¬ r_212 = 0 → vp_in (v1_171 + 2) 160 ∧ ((¬ v2_171 = 1 → hw_takes 1 999 (hm_sA σ_212 8 (v1_171 + 2) (hm_gI σ_212 18)) (fun r_244 σ_244 => (vp_in (v1_171 + 3) 160 ∧ (hb_B r_244 ∧ Q r_244 (hm_sA σ_244 8 (v1_171 + 3) (hm_gI σ_244 18)))))) ∧ (v2_171 = 1 → Q 1 (hm_sA σ_212 8 (v1_171 + 2) (hm_gI σ_212 18))))) ∧ (r_212 = 0 → Q 0 σ_212))))) ∧ (¬ v2_171 ≤ 4 → hb_B t0_171 ∧ Q t0_171 (hm_sA σ171 8 (v1_171 + 1) (hm_gI σ171 18)))))))
def hw_bookLine_b107 (v1_107 : Int32) (t0_107 : Int32) (σ107 : hm_S) (Q : Int32 → hm_S → Prop) : Prop := (0 ≤ t0_107 → (¬ (hm_gI σ107 39) = 40 → hw_next  σ107 (fun σ_134 => (vp_in v1_107 160 ∧ ((¬ t0_107 = 6 → vp_in 0 346 ∧ (hw_takesName 0 (hm_gA (hm_sA σ_134 8 v1_107 t0_107) 6 0) (hm_sA σ_134 8 v1_107 t0_107) (fun r_168 σ_168 => (hw_bookLine_b171  v1_107 t0_107 r_168 σ_168 Q)))) ∧ (t0_107 = 6 → hw_takes 1 60 (hm_sA σ_134 8 v1_107 t0_107) (fun r_154 σ_154 => (hw_bookLine_b171  v1_107 t0_107 r_154 σ_154 Q))))))) ∧ ((hm_gI σ107 39) = 40 → hw_bad 4 σ107 (fun r_129 σ_129 => (hb_B r_129 ∧ Q r_129 σ_129)))) ∧ (¬ 0 ≤ t0_107 → hw_bad 1 σ107 (fun r_114 σ_114 => (hb_B r_114 ∧ Q r_114 σ_114)))
def hw_bookLine  (σ : hm_S) (Q : Int32 → hm_S → Prop) : Prop := hw_isWord 6580581 σ (fun r_11 σ_11 => ((r_11 = 0 → hw_isWord 7824740 σ_11 (fun r_25 σ_25 => ((r_25 = 0 → hw_isWord 1885434484 σ_25 (fun r_39 σ_39 => ((r_39 = 0 → hw_isWord 1734964837 σ_39 (fun r_53 σ_53 => ((r_53 = 0 → hw_isWord 465557354085 σ_53 (fun r_67 σ_67 => ((r_67 = 0 → hw_isWord 125780104276837 σ_67 (fun r_81 σ_81 => ((r_81 = 0 → hw_isWord 2036687218 σ_81 (fun r_95 σ_95 => ((r_95 = 0 → hw_bookLine_b107  (4 * (hm_gI σ 39)) (-1) σ_95 Q) ∧ (¬ r_95 = 0 → hw_bookLine_b107  (4 * (hm_gI σ 39)) 6 σ_95 Q)))) ∧ (¬ r_81 = 0 → hw_bookLine_b107  (4 * (hm_gI σ 39)) 5 σ_81 Q)))) ∧ (¬ r_67 = 0 → hw_bookLine_b107  (4 * (hm_gI σ 39)) 4 σ_67 Q)))) ∧ (¬ r_53 = 0 → hw_bookLine_b107  (4 * (hm_gI σ 39)) 3 σ_53 Q)))) ∧ (¬ r_39 = 0 → hw_bookLine_b107  (4 * (hm_gI σ 39)) 2 σ_39 Q)))) ∧ (¬ r_25 = 0 → hw_bookLine_b107  (4 * (hm_gI σ 39)) 1 σ_25 Q)))) ∧ (¬ r_11 = 0 → hw_bookLine_b107  (4 * (hm_gI σ 39)) 0 σ_11 Q)))
set_option maxHeartbeats 4000000 in
set_option maxRecDepth 100000 in
theorem hk_bookLine (l : Launch) (D : va_G) (dA : Nat → ClassId) (o : Nat) (b : Nat → Nat) (hB : hm_D dA o b)  (σ : hm_S) {Q : Int32 → hm_S → Prop} (hf : hw_bookLine  σ Q) : Met l yX5_bookLine (ws_ yX5_bookLine cX5_bookLine 4 (some .boolean)) (hb_R 3 68) (va_Pc [.ref o] (hm_U D dA o b σ)) (va_Qi Q (hm_U D dA o b) (hm_A o b)) 0 0 (hm_A o b) := by
  refine hm_Mz hB (LV := [(0, .ref o)]) (by decide) rfl (Nat.le_of_ble_eq_true rfl) (fun p e s m args below meth c ls QQ C M hl hret => ?_)
  have hx := C.1.1
  have hb := C.1.2.1
  have B171 : ∀ (v1_171 : Int32) (v2_171 : Int32) (t0_171 : Int32) (σ171 : hm_S) (H : Heap) (locs : List Loc) (ls : Array Slot), hm_M D dA o b s.heap σ171 H locs → lv_has ls 4 [(0, .ref o), (1, .int v1_171), (2, .int v2_171)] → hw_bookLine_b171  v1_171 v2_171 t0_171 σ171 Q → W p l e (hb_R 3 68) s m args below meth c H locs 0 0 QQ (F0 m 171 ls [.int t0_171]) := by
    intro v1_171 v2_171 t0_171 σ171 H locs ls M hl hf
    refine lv_istore_n (lv' := [(3, .int t0_171), (0, .ref o), (1, .int v1_171), (2, .int v2_171)]) hx hb dX5_bookLine_171 rfl hl (by decide) rfl (fun ls hl => ?_)
    refine lv_aload_n hx hb dX5_bookLine_172 rfl (lv_at hl 1 rfl) ?_
    refine hm_get C M 8 (by decide) q2075 (v := .ref (b 8)) rfl dX5_bookLine_173 ?_
    refine lv_iload_n hx hb dX5_bookLine_176 rfl (lv_at hl 2 rfl) ?_
    refine lv_iconst (v := 1) hx hb dX5_bookLine_177 rfl ?_
    refine lv_iadd hx hb dX5_bookLine_178 ?_
    refine lv_aload_n hx hb dX5_bookLine_179 rfl (lv_at hl 1 rfl) ?_
    refine hm_get C M 18 (by decide) q2085 (v := .int (hm_gI σ171 18)) rfl dX5_bookLine_180 ?_
    obtain ⟨g1, hf⟩ := hf
    refine hm_ast8 C M g1 dX5_bookLine_183 (fun H locs M => ?_)
    refine lv_iload_n hx hb dX5_bookLine_184 rfl (lv_at hl 0 rfl) ?_
    obtain ⟨hft, hff⟩ := hf
    refine lv_if_eq (tgt := 202) hx hb dX5_bookLine_185 (by decide) (fun c1 => ?_) (fun c1 => ?_)
    · have hf := hft c1
      refine lv_iload_n hx hb dX5_bookLine_202 rfl (lv_at hl 0 rfl) ?_
      exact hret _ _ _ _ _ _ dX5_bookLine_203 M hf.1 hf.2
    · have hf := hff c1
      refine lv_iload_n hx hb dX5_bookLine_188 rfl (lv_at hl 3 rfl) ?_
      obtain ⟨hft, hff⟩ := hf
      refine lv_if_eq (tgt := 202) hx hb dX5_bookLine_189 (by decide) (fun c1 => ?_) (fun c1 => ?_)
      · have hf := hft c1
        refine lv_iload_n hx hb dX5_bookLine_202 rfl (lv_at hl 0 rfl) ?_
        exact hret _ _ _ _ _ _ dX5_bookLine_203 M hf.1 hf.2
      · have hf := hff c1
        refine lv_iload_n hx hb dX5_bookLine_192 rfl (lv_at hl 3 rfl) ?_
        refine lv_iconst (v := 2) hx hb dX5_bookLine_193 rfl ?_
        obtain ⟨hft, hff⟩ := hf
        refine lv_icmp_eq (tgt := 202) hx hb dX5_bookLine_194 (by decide) (fun c1 => ?_) (fun c1 => ?_)
        · have hf := hft c1
          refine lv_iload_n hx hb dX5_bookLine_202 rfl (lv_at hl 0 rfl) ?_
          exact hret _ _ _ _ _ _ dX5_bookLine_203 M hf.1 hf.2
        · have hf := hff c1
          refine lv_iload_n hx hb dX5_bookLine_197 rfl (lv_at hl 3 rfl) ?_
          refine lv_iconst (v := 4) hx hb dX5_bookLine_198 rfl ?_
          obtain ⟨hft, hff⟩ := hf
          refine lv_icmp_le (tgt := 204) hx hb dX5_bookLine_199 (by decide) (fun c1 => ?_) (fun c1 => ?_)
          · have hf := hft c1
            refine lv_aload_n hx hb dX5_bookLine_204 rfl (lv_at hl 1 rfl) ?_
            refine lv_iconst (v := 0) hx hb dX5_bookLine_205 rfl ?_
            refine lv_aload_n hx hb dX5_bookLine_206 rfl (lv_at hl 1 rfl) ?_
            refine hm_get C M 6 (by decide) q2073 (v := .ref (b 6)) rfl dX5_bookLine_207 ?_
            refine lv_iconst (v := 0) hx hb dX5_bookLine_210 rfl ?_
            obtain ⟨g1, hf⟩ := hf
            refine hm_ald6 C M g1 dX5_bookLine_211 ?_
            refine hm_ci C M hl.1 (As := [.int 0, .int (hm_gA (hm_sA σ171 8 (v1_171 + 1) (hm_gI σ171 18)) 6 0)]) (rest := []) (hk_takesOther l D dA o b hB 0 (hm_gA (hm_sA σ171 8 (v1_171 + 1) (hm_gI σ171 18)) 6 0) (hm_sA σ171 8 (v1_171 + 1) (hm_gI σ171 18)) hf) (n := 2) q2309 q2311 qs65 q140 q2312 (by decide +kernel) rfl ⟨Nat.le_of_ble_eq_true rfl, Nat.le_of_ble_eq_true rfl⟩ rfl (Nat.le_of_ble_eq_true rfl) dX5_bookLine_212 (fun r_212 σ_212 H locs hf M => ?_)
            obtain ⟨hft, hff⟩ := hf
            refine lv_if_ne (tgt := 220) hx hb dX5_bookLine_215 (by decide) (fun c1 => ?_) (fun c1 => ?_)
            · have hf := hft c1
              refine lv_aload_n hx hb dX5_bookLine_220 rfl (lv_at hl 1 rfl) ?_
              refine hm_get C M 8 (by decide) q2075 (v := .ref (b 8)) rfl dX5_bookLine_221 ?_
              refine lv_iload_n hx hb dX5_bookLine_224 rfl (lv_at hl 2 rfl) ?_
              refine lv_iconst (v := 2) hx hb dX5_bookLine_225 rfl ?_
              refine lv_iadd hx hb dX5_bookLine_226 ?_
              refine lv_aload_n hx hb dX5_bookLine_227 rfl (lv_at hl 1 rfl) ?_
              refine hm_get C M 18 (by decide) q2085 (v := .int (hm_gI σ_212 18)) rfl dX5_bookLine_228 ?_
              obtain ⟨g1, hf⟩ := hf
              refine hm_ast8 C M g1 dX5_bookLine_231 (fun H locs M => ?_)
              refine lv_iload_n hx hb dX5_bookLine_232 rfl (lv_at hl 3 rfl) ?_
              refine lv_iconst (v := 1) hx hb dX5_bookLine_233 rfl ?_
              obtain ⟨hft, hff⟩ := hf
              refine lv_icmp_ne (tgt := 239) hx hb dX5_bookLine_234 (by decide) (fun c1 => ?_) (fun c1 => ?_)
              · have hf := hft c1
                refine lv_aload_n hx hb dX5_bookLine_239 rfl (lv_at hl 1 rfl) ?_
                refine lv_iconst (v := 1) hx hb dX5_bookLine_240 rfl ?_
                refine lv_sipush (v := 999) hx hb dX5_bookLine_241 rfl ?_
                refine hm_ci C M hl.1 (As := [.int 1, .int 999]) (rest := []) (hk_takes l D dA o b hB 1 999 (hm_sA σ_212 8 (v1_171 + 2) (hm_gI σ_212 18)) hf) (n := 2) q2276 q2278 qs59 q140 q2279 (by decide +kernel) rfl ⟨Nat.le_of_ble_eq_true rfl, Nat.le_of_ble_eq_true rfl⟩ rfl (Nat.le_of_ble_eq_true rfl) dX5_bookLine_244 (fun r_244 σ_244 H locs hf M => ?_)
                refine lv_istore_n (lv' := [(3, .int r_244), (0, .ref o), (1, .int v1_171), (2, .int v2_171)]) hx hb dX5_bookLine_247 rfl hl (by decide) rfl (fun ls hl => ?_)
                refine lv_aload_n hx hb dX5_bookLine_248 rfl (lv_at hl 1 rfl) ?_
                refine hm_get C M 8 (by decide) q2075 (v := .ref (b 8)) rfl dX5_bookLine_249 ?_
                refine lv_iload_n hx hb dX5_bookLine_252 rfl (lv_at hl 2 rfl) ?_
                refine lv_iconst (v := 3) hx hb dX5_bookLine_253 rfl ?_
                refine lv_iadd hx hb dX5_bookLine_254 ?_
                refine lv_aload_n hx hb dX5_bookLine_255 rfl (lv_at hl 1 rfl) ?_
                refine hm_get C M 18 (by decide) q2085 (v := .int (hm_gI σ_244 18)) rfl dX5_bookLine_256 ?_
                obtain ⟨g1, hf⟩ := hf
                refine hm_ast8 C M g1 dX5_bookLine_259 (fun H locs M => ?_)
                refine lv_iload_n hx hb dX5_bookLine_260 rfl (lv_at hl 0 rfl) ?_
                exact hret _ _ _ _ _ _ dX5_bookLine_261 M hf.1 hf.2
              · have hf := hff c1
                refine lv_iconst (v := 1) hx hb dX5_bookLine_237 rfl ?_
                exact hret _ _ _ _ _ _ dX5_bookLine_238 M hb_B1 hf
            · have hf := hff c1
              refine lv_iconst (v := 0) hx hb dX5_bookLine_218 rfl ?_
              exact hret _ _ _ _ _ _ dX5_bookLine_219 M hb_B0 hf
          · have hf := hff c1
            refine lv_iload_n hx hb dX5_bookLine_202 rfl (lv_at hl 0 rfl) ?_
            exact hret _ _ _ _ _ _ dX5_bookLine_203 M hf.1 hf.2
  have B107 : ∀ (v1_107 : Int32) (t0_107 : Int32) (σ107 : hm_S) (H : Heap) (locs : List Loc) (ls : Array Slot), hm_M D dA o b s.heap σ107 H locs → lv_has ls 4 [(0, .ref o), (1, .int v1_107)] → hw_bookLine_b107  v1_107 t0_107 σ107 Q → W p l e (hb_R 3 68) s m args below meth c H locs 0 0 QQ (F0 m 107 ls [.int t0_107]) := by
    intro v1_107 t0_107 σ107 H locs ls M hl hf
    refine lv_istore_n (lv' := [(2, .int t0_107), (0, .ref o), (1, .int v1_107)]) hx hb dX5_bookLine_107 rfl hl (by decide) rfl (fun ls hl => ?_)
    refine lv_iload_n hx hb dX5_bookLine_108 rfl (lv_at hl 0 rfl) ?_
    obtain ⟨hft, hff⟩ := hf
    refine lv_if_ge (tgt := 118) hx hb dX5_bookLine_109 (by decide) (fun c1 => ?_) (fun c1 => ?_)
    · have hf := hft c1
      refine lv_aload_n hx hb dX5_bookLine_118 rfl (lv_at hl 1 rfl) ?_
      refine hm_get C M 39 (by decide) q2106 (v := .int (hm_gI σ107 39)) rfl dX5_bookLine_119 ?_
      refine lv_bipush (v := 40) hx hb dX5_bookLine_122 rfl ?_
      obtain ⟨hft, hff⟩ := hf
      refine lv_icmp_ne (tgt := 133) hx hb dX5_bookLine_124 (by decide) (fun c1 => ?_) (fun c1 => ?_)
      · have hf := hft c1
        refine lv_aload_n hx hb dX5_bookLine_133 rfl (lv_at hl 1 rfl) ?_
        refine hm_cv C M hl.1 (As := []) (rest := []) (hk_next l D dA o b hB  σ107 hf) (n := 0) q2234 q2236 qs50 q140 q2237 (by decide +kernel) rfl ⟨Nat.le_of_ble_eq_true rfl, Nat.le_of_ble_eq_true rfl⟩ rfl (Nat.le_of_ble_eq_true rfl) dX5_bookLine_134 (fun σ_134 H locs hf M => ?_)
        refine lv_aload_n hx hb dX5_bookLine_137 rfl (lv_at hl 1 rfl) ?_
        refine hm_get C M 8 (by decide) q2075 (v := .ref (b 8)) rfl dX5_bookLine_138 ?_
        refine lv_iload_n hx hb dX5_bookLine_141 rfl (lv_at hl 2 rfl) ?_
        refine lv_iload_n hx hb dX5_bookLine_142 rfl (lv_at hl 0 rfl) ?_
        obtain ⟨g1, hf⟩ := hf
        refine hm_ast8 C M g1 dX5_bookLine_143 (fun H locs M => ?_)
        refine lv_iload_n hx hb dX5_bookLine_144 rfl (lv_at hl 0 rfl) ?_
        refine lv_bipush (v := 6) hx hb dX5_bookLine_145 rfl ?_
        obtain ⟨hft, hff⟩ := hf
        refine lv_icmp_ne (tgt := 160) hx hb dX5_bookLine_147 (by decide) (fun c1 => ?_) (fun c1 => ?_)
        · have hf := hft c1
          refine lv_aload_n hx hb dX5_bookLine_160 rfl (lv_at hl 1 rfl) ?_
          refine lv_iconst (v := 0) hx hb dX5_bookLine_161 rfl ?_
          refine lv_aload_n hx hb dX5_bookLine_162 rfl (lv_at hl 1 rfl) ?_
          refine hm_get C M 6 (by decide) q2073 (v := .ref (b 6)) rfl dX5_bookLine_163 ?_
          refine lv_iconst (v := 0) hx hb dX5_bookLine_166 rfl ?_
          obtain ⟨g1, hf⟩ := hf
          refine hm_ald6 C M g1 dX5_bookLine_167 ?_
          refine hm_ci C M hl.1 (As := [.int 0, .int (hm_gA (hm_sA σ_134 8 v1_107 t0_107) 6 0)]) (rest := []) (hk_takesName l D dA o b hB 0 (hm_gA (hm_sA σ_134 8 v1_107 t0_107) 6 0) (hm_sA σ_134 8 v1_107 t0_107) hf) (n := 2) q2305 q2307 qs64 q140 q2308 (by decide +kernel) rfl ⟨Nat.le_of_ble_eq_true rfl, Nat.le_of_ble_eq_true rfl⟩ rfl (Nat.le_of_ble_eq_true rfl) dX5_bookLine_168 (fun r_168 σ_168 H locs hf M => ?_)
          exact B171 v1_107 t0_107 r_168 σ_168 _ _ _ M (lv_sub hl [1, 2, 0] rfl) hf
        · have hf := hff c1
          refine lv_aload_n hx hb dX5_bookLine_150 rfl (lv_at hl 1 rfl) ?_
          refine lv_iconst (v := 1) hx hb dX5_bookLine_151 rfl ?_
          refine lv_bipush (v := 60) hx hb dX5_bookLine_152 rfl ?_
          refine hm_ci C M hl.1 (As := [.int 1, .int 60]) (rest := []) (hk_takes l D dA o b hB 1 60 (hm_sA σ_134 8 v1_107 t0_107) hf) (n := 2) q2276 q2278 qs59 q140 q2279 (by decide +kernel) rfl ⟨Nat.le_of_ble_eq_true rfl, Nat.le_of_ble_eq_true rfl⟩ rfl (Nat.le_of_ble_eq_true rfl) dX5_bookLine_154 (fun r_154 σ_154 H locs hf M => ?_)
          refine lv_goto (tgt := 171) hx hb dX5_bookLine_157 (by decide) ?_
          exact B171 v1_107 t0_107 r_154 σ_154 _ _ _ M (lv_sub hl [1, 2, 0] rfl) hf
      · have hf := hff c1
        refine lv_aload_n hx hb dX5_bookLine_127 rfl (lv_at hl 1 rfl) ?_
        refine lv_iconst (v := 4) hx hb dX5_bookLine_128 rfl ?_
        refine hm_ci C M hl.1 (As := [.int 4]) (rest := []) (hk_bad l D dA o b hB 4 σ107 hf) (n := 1) q2260 q2262 qs55 q140 q2263 (by decide +kernel) rfl ⟨Nat.le_of_ble_eq_true rfl, Nat.le_of_ble_eq_true rfl⟩ rfl (Nat.le_of_ble_eq_true rfl) dX5_bookLine_129 (fun r_129 σ_129 H locs hf M => ?_)
        exact hret _ _ _ _ _ _ dX5_bookLine_132 M hf.1 hf.2
    · have hf := hff c1
      refine lv_aload_n hx hb dX5_bookLine_112 rfl (lv_at hl 1 rfl) ?_
      refine lv_iconst (v := 1) hx hb dX5_bookLine_113 rfl ?_
      refine hm_ci C M hl.1 (As := [.int 1]) (rest := []) (hk_bad l D dA o b hB 1 σ107 hf) (n := 1) q2260 q2262 qs55 q140 q2263 (by decide +kernel) rfl ⟨Nat.le_of_ble_eq_true rfl, Nat.le_of_ble_eq_true rfl⟩ rfl (Nat.le_of_ble_eq_true rfl) dX5_bookLine_114 (fun r_114 σ_114 H locs hf M => ?_)
      exact hret _ _ _ _ _ _ dX5_bookLine_117 M hf.1 hf.2
  refine lv_iconst (v := 4) hx hb dX5_bookLine_0 rfl ?_
  refine lv_aload_n hx hb dX5_bookLine_1 rfl (lv_at hl 0 rfl) ?_
  refine hm_get C M 39 (by decide) q2106 (v := .int (hm_gI σ 39)) rfl dX5_bookLine_2 ?_
  refine lv_imul hx hb dX5_bookLine_5 ?_
  refine lv_istore_n (lv' := [(1, .int (4 * (hm_gI σ 39))), (0, .ref o)]) hx hb dX5_bookLine_6 rfl hl (by decide) rfl (fun ls hl => ?_)
  refine lv_aload_n hx hb dX5_bookLine_7 rfl (lv_at hl 1 rfl) ?_
  refine lv_ldc2 hx hb C.1.2.2.2.1 (C.1.2.2.2.2 _ q2046) dX5_bookLine_8 ?_
  refine hm_ci C M hl.1 (As := [.long 6580581]) (rest := []) (hk_isWord l D dA o b hB 6580581 σ hf) (n := 1) q2252 q2254 qs53 q140 q2255 (by decide +kernel) rfl ⟨Nat.le_of_ble_eq_true rfl, Nat.le_of_ble_eq_true rfl⟩ rfl (Nat.le_of_ble_eq_true rfl) dX5_bookLine_11 (fun r_11 σ_11 H locs hf M => ?_)
  obtain ⟨hft, hff⟩ := hf
  refine lv_if_eq (tgt := 21) hx hb dX5_bookLine_14 (by decide) (fun c1 => ?_) (fun c1 => ?_)
  · have hf := hft c1
    refine lv_aload_n hx hb dX5_bookLine_21 rfl (lv_at hl 1 rfl) ?_
    refine lv_ldc2 hx hb C.1.2.2.2.1 (C.1.2.2.2.2 _ q2042) dX5_bookLine_22 ?_
    refine hm_ci C M hl.1 (As := [.long 7824740]) (rest := []) (hk_isWord l D dA o b hB 7824740 σ_11 hf) (n := 1) q2252 q2254 qs53 q140 q2255 (by decide +kernel) rfl ⟨Nat.le_of_ble_eq_true rfl, Nat.le_of_ble_eq_true rfl⟩ rfl (Nat.le_of_ble_eq_true rfl) dX5_bookLine_25 (fun r_25 σ_25 H locs hf M => ?_)
    obtain ⟨hft, hff⟩ := hf
    refine lv_if_eq (tgt := 35) hx hb dX5_bookLine_28 (by decide) (fun c1 => ?_) (fun c1 => ?_)
    · have hf := hft c1
      refine lv_aload_n hx hb dX5_bookLine_35 rfl (lv_at hl 1 rfl) ?_
      refine lv_ldc2 hx hb C.1.2.2.2.1 (C.1.2.2.2.2 _ q2047) dX5_bookLine_36 ?_
      refine hm_ci C M hl.1 (As := [.long 1885434484]) (rest := []) (hk_isWord l D dA o b hB 1885434484 σ_25 hf) (n := 1) q2252 q2254 qs53 q140 q2255 (by decide +kernel) rfl ⟨Nat.le_of_ble_eq_true rfl, Nat.le_of_ble_eq_true rfl⟩ rfl (Nat.le_of_ble_eq_true rfl) dX5_bookLine_39 (fun r_39 σ_39 H locs hf M => ?_)
      obtain ⟨hft, hff⟩ := hf
      refine lv_if_eq (tgt := 49) hx hb dX5_bookLine_42 (by decide) (fun c1 => ?_) (fun c1 => ?_)
      · have hf := hft c1
        refine lv_aload_n hx hb dX5_bookLine_49 rfl (lv_at hl 1 rfl) ?_
        refine lv_ldc2 hx hb C.1.2.2.2.1 (C.1.2.2.2.2 _ q2048) dX5_bookLine_50 ?_
        refine hm_ci C M hl.1 (As := [.long 1734964837]) (rest := []) (hk_isWord l D dA o b hB 1734964837 σ_39 hf) (n := 1) q2252 q2254 qs53 q140 q2255 (by decide +kernel) rfl ⟨Nat.le_of_ble_eq_true rfl, Nat.le_of_ble_eq_true rfl⟩ rfl (Nat.le_of_ble_eq_true rfl) dX5_bookLine_53 (fun r_53 σ_53 H locs hf M => ?_)
        obtain ⟨hft, hff⟩ := hf
        refine lv_if_eq (tgt := 63) hx hb dX5_bookLine_56 (by decide) (fun c1 => ?_) (fun c1 => ?_)
        · have hf := hft c1
          refine lv_aload_n hx hb dX5_bookLine_63 rfl (lv_at hl 1 rfl) ?_
          refine lv_ldc2 hx hb C.1.2.2.2.1 (C.1.2.2.2.2 _ q2049) dX5_bookLine_64 ?_
          refine hm_ci C M hl.1 (As := [.long 465557354085]) (rest := []) (hk_isWord l D dA o b hB 465557354085 σ_53 hf) (n := 1) q2252 q2254 qs53 q140 q2255 (by decide +kernel) rfl ⟨Nat.le_of_ble_eq_true rfl, Nat.le_of_ble_eq_true rfl⟩ rfl (Nat.le_of_ble_eq_true rfl) dX5_bookLine_67 (fun r_67 σ_67 H locs hf M => ?_)
          obtain ⟨hft, hff⟩ := hf
          refine lv_if_eq (tgt := 77) hx hb dX5_bookLine_70 (by decide) (fun c1 => ?_) (fun c1 => ?_)
          · have hf := hft c1
            refine lv_aload_n hx hb dX5_bookLine_77 rfl (lv_at hl 1 rfl) ?_
            refine lv_ldc2 hx hb C.1.2.2.2.1 (C.1.2.2.2.2 _ q2050) dX5_bookLine_78 ?_
            refine hm_ci C M hl.1 (As := [.long 125780104276837]) (rest := []) (hk_isWord l D dA o b hB 125780104276837 σ_67 hf) (n := 1) q2252 q2254 qs53 q140 q2255 (by decide +kernel) rfl ⟨Nat.le_of_ble_eq_true rfl, Nat.le_of_ble_eq_true rfl⟩ rfl (Nat.le_of_ble_eq_true rfl) dX5_bookLine_81 (fun r_81 σ_81 H locs hf M => ?_)
            obtain ⟨hft, hff⟩ := hf
            refine lv_if_eq (tgt := 91) hx hb dX5_bookLine_84 (by decide) (fun c1 => ?_) (fun c1 => ?_)
            · have hf := hft c1
              refine lv_aload_n hx hb dX5_bookLine_91 rfl (lv_at hl 1 rfl) ?_
              refine lv_ldc2 hx hb C.1.2.2.2.1 (C.1.2.2.2.2 _ q2051) dX5_bookLine_92 ?_
              refine hm_ci C M hl.1 (As := [.long 2036687218]) (rest := []) (hk_isWord l D dA o b hB 2036687218 σ_81 hf) (n := 1) q2252 q2254 qs53 q140 q2255 (by decide +kernel) rfl ⟨Nat.le_of_ble_eq_true rfl, Nat.le_of_ble_eq_true rfl⟩ rfl (Nat.le_of_ble_eq_true rfl) dX5_bookLine_95 (fun r_95 σ_95 H locs hf M => ?_)
              obtain ⟨hft, hff⟩ := hf
              refine lv_if_eq (tgt := 106) hx hb dX5_bookLine_98 (by decide) (fun c1 => ?_) (fun c1 => ?_)
              · have hf := hft c1
                refine lv_iconst (v := (-1)) hx hb dX5_bookLine_106 rfl ?_
                exact B107 (4 * (hm_gI σ 39)) (-1) σ_95 _ _ _ M (lv_sub hl [1, 0] rfl) hf
              · have hf := hff c1
                refine lv_bipush (v := 6) hx hb dX5_bookLine_101 rfl ?_
                refine lv_goto (tgt := 107) hx hb dX5_bookLine_103 (by decide) ?_
                exact B107 (4 * (hm_gI σ 39)) 6 σ_95 _ _ _ M (lv_sub hl [1, 0] rfl) hf
            · have hf := hff c1
              refine lv_iconst (v := 5) hx hb dX5_bookLine_87 rfl ?_
              refine lv_goto (tgt := 107) hx hb dX5_bookLine_88 (by decide) ?_
              exact B107 (4 * (hm_gI σ 39)) 5 σ_81 _ _ _ M (lv_sub hl [1, 0] rfl) hf
          · have hf := hff c1
            refine lv_iconst (v := 4) hx hb dX5_bookLine_73 rfl ?_
            refine lv_goto (tgt := 107) hx hb dX5_bookLine_74 (by decide) ?_
            exact B107 (4 * (hm_gI σ 39)) 4 σ_67 _ _ _ M (lv_sub hl [1, 0] rfl) hf
        · have hf := hff c1
          refine lv_iconst (v := 3) hx hb dX5_bookLine_59 rfl ?_
          refine lv_goto (tgt := 107) hx hb dX5_bookLine_60 (by decide) ?_
          exact B107 (4 * (hm_gI σ 39)) 3 σ_53 _ _ _ M (lv_sub hl [1, 0] rfl) hf
      · have hf := hff c1
        refine lv_iconst (v := 2) hx hb dX5_bookLine_45 rfl ?_
        refine lv_goto (tgt := 107) hx hb dX5_bookLine_46 (by decide) ?_
        exact B107 (4 * (hm_gI σ 39)) 2 σ_39 _ _ _ M (lv_sub hl [1, 0] rfl) hf
    · have hf := hff c1
      refine lv_iconst (v := 1) hx hb dX5_bookLine_31 rfl ?_
      refine lv_goto (tgt := 107) hx hb dX5_bookLine_32 (by decide) ?_
      exact B107 (4 * (hm_gI σ 39)) 1 σ_25 _ _ _ M (lv_sub hl [1, 0] rfl) hf
  · have hf := hff c1
    refine lv_iconst (v := 0) hx hb dX5_bookLine_17 rfl ?_
    refine lv_goto (tgt := 107) hx hb dX5_bookLine_18 (by decide) ?_
    exact B107 (4 * (hm_gI σ 39)) 0 σ_11 _ _ _ M (lv_sub hl [1, 0] rfl) hf
