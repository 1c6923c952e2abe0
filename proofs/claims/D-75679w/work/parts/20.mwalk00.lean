set_option maxRecDepth 100000
def hw_thrown  (σ : hm_S) (Q : Int32 → hm_S → Prop) : Prop := Q (hm_gI σ 0) σ
set_option maxHeartbeats 4000000 in
set_option maxRecDepth 100000 in
theorem hk_thrown (l : Launch) (D : va_G) (dA : Nat → ClassId) (o : Nat) (b : Nat → Nat) (hB : hm_D dA o b)  (σ : hm_S) {Q : Int32 → hm_S → Prop} (hf : hw_thrown  σ Q) : Met l yX5_thrown (ws_ yX5_thrown cX5_thrown 1 (some .int)) (hb_R 0 0) (va_Pc [.ref o] (hm_U D dA o b σ)) (va_Qi Q (hm_U D dA o b) (hm_A o b)) 0 0 (hm_A o b) := by
  refine hm_Mi hB (LV := [(0, .ref o)]) (by decide) rfl (Nat.le_of_ble_eq_true rfl) (fun p e s m args below meth c ls QQ C M hl hret => ?_)
  have hx := C.1.1
  have hb := C.1.2.1
  refine lv_aload_n hx hb dX5_thrown_0 rfl (lv_at hl 0 rfl) ?_
  refine hm_get C M 0 (by decide) q2067 (v := .int (hm_gI σ 0)) rfl dX5_thrown_1 ?_
  exact hret _ _ _ _ _ _ dX5_thrown_4 M hf
def hw_four_b3 : Nat → Int32 → Int32 → hm_S → (hm_S → Prop) → Prop
  | 0, _, _, _, _ => False
  | n3 + 1, v1_3, v2_3, σ3, Q => (v2_3 < 0 → Q σ3) ∧ (¬ v2_3 < 0 → vp_in (hm_gI σ3 2) 940 ∧ (hw_four_b3  n3 v1_3 (v2_3 + (-8)) (hm_sI (hm_sA σ3 1 (hm_gI σ3 2) (vp_nar .byte ((v1_3 >>> (v2_3 &&& 31)).toInt8.toInt32))) 2 ((hm_gI (hm_sA σ3 1 (hm_gI σ3 2) (vp_nar .byte ((v1_3 >>> (v2_3 &&& 31)).toInt8.toInt32))) 2) + 1)) Q))
def hw_four (a1 : Int32) (σ : hm_S) (Q : hm_S → Prop) : Prop := ∃ n, hw_four_b3  n a1 24 σ Q
set_option maxHeartbeats 4000000 in
set_option maxRecDepth 100000 in
theorem hk_four (l : Launch) (D : va_G) (dA : Nat → ClassId) (o : Nat) (b : Nat → Nat) (hB : hm_D dA o b) (a1 : Int32) (σ : hm_S) {Q : hm_S → Prop} (hf : hw_four a1 σ Q) : Met l yX5_four (ws_ yX5_four cX5_four 3 none) (hb_R 0 0) (va_Pc [.ref o, .int a1] (hm_U D dA o b σ)) (va_Qv Q (hm_U D dA o b) (hm_A o b)) 0 0 (hm_A o b) := by
  refine hm_Mv hB (LV := [(0, .ref o), (1, .int a1)]) (by decide) rfl (Nat.le_of_ble_eq_true rfl) (fun p e s m args below meth c ls QQ C M hl hret => ?_)
  have hx := C.1.1
  have hb := C.1.2.1
  have B3 : ∀ (n3 : Nat) (v1_3 : Int32) (v2_3 : Int32) (σ3 : hm_S) (H : Heap) (locs : List Loc) (ls : Array Slot), hm_M D dA o b s.heap σ3 H locs → lv_has ls 3 [(0, .ref o), (1, .int v1_3), (2, .int v2_3)] → hw_four_b3  n3 v1_3 v2_3 σ3 Q → W p l e (hb_R 0 0) s m args below meth c H locs 0 0 QQ (F0 m 3 ls []) := by
    intro n3
    induction n3 with
    | zero => intro v1_3 v2_3 σ3 H locs ls M hl hf; exact hf.elim
    | succ n3 ih3 =>
      intro v1_3 v2_3 σ3 H locs ls M hl hf
      refine lv_iload_n hx hb dX5_four_3 rfl (lv_at hl 2 rfl) ?_
      obtain ⟨hft, hff⟩ := hf
      refine lv_if_lt (tgt := 36) hx hb dX5_four_4 (by decide) (fun c1 => ?_) (fun c1 => ?_)
      · have hf := hft c1
        exact hret _ _ _ _ _ dX5_four_36 M hf
      · have hf := hff c1
        refine lv_aload_n hx hb dX5_four_7 rfl (lv_at hl 0 rfl) ?_
        refine hm_get C M 1 (by decide) q2068 (v := .ref (b 1)) rfl dX5_four_8 ?_
        refine lv_aload_n hx hb dX5_four_11 rfl (lv_at hl 0 rfl) ?_
        refine hm_get C M 2 (by decide) q2069 (v := .int (hm_gI σ3 2)) rfl dX5_four_12 ?_
        refine lv_iload_n hx hb dX5_four_15 rfl (lv_at hl 1 rfl) ?_
        refine lv_iload_n hx hb dX5_four_16 rfl (lv_at hl 2 rfl) ?_
        refine lv_ishr hx hb dX5_four_17 ?_
        refine lv_i2b hx hb dX5_four_18 rfl ?_
        obtain ⟨g1, hf⟩ := hf
        refine hm_ast1 C M g1 dX5_four_19 (fun H locs M => ?_)
        refine lv_aload_n hx hb dX5_four_20 rfl (lv_at hl 0 rfl) ?_
        refine lv_dup hx hb dX5_four_21 rfl ?_
        refine hm_get C M 2 (by decide) q2069 (v := .int (hm_gI (hm_sA σ3 1 (hm_gI σ3 2) (vp_nar .byte ((v1_3 >>> (v2_3 &&& 31)).toInt8.toInt32))) 2)) rfl dX5_four_22 ?_
        refine lv_iconst (v := 1) hx hb dX5_four_25 rfl ?_
        refine lv_iadd hx hb dX5_four_26 ?_
        refine hm_put2 C M q2069 dX5_four_27 (fun H locs M => ?_)
        refine lv_iinc (v := v2_3 + (-8)) (lv' := [(2, .int (v2_3 + (-8))), (0, .ref o), (1, .int v1_3)]) hx hb dX5_four_30 hl (k := 2) rfl rfl (by decide) rfl (fun ls hl => ?_)
        refine lv_goto (tgt := 3) hx hb dX5_four_33 (by decide) ?_
        exact ih3 v1_3 (v2_3 + (-8)) (hm_sI (hm_sA σ3 1 (hm_gI σ3 2) (vp_nar .byte ((v1_3 >>> (v2_3 &&& 31)).toInt8.toInt32))) 2 ((hm_gI (hm_sA σ3 1 (hm_gI σ3 2) (vp_nar .byte ((v1_3 >>> (v2_3 &&& 31)).toInt8.toInt32))) 2) + 1)) _ _ _ M (lv_sub hl [1, 2, 0] rfl) hf
  refine lv_bipush (v := 24) hx hb dX5_four_0 rfl ?_
  refine lv_istore_n (lv' := [(2, .int 24), (0, .ref o), (1, .int a1)]) hx hb dX5_four_2 rfl hl (by decide) rfl (fun ls hl => ?_)
  obtain ⟨nn, hf⟩ := hf
  exact B3 nn a1 24 σ _ _ _ M (lv_sub hl [1, 2, 0] rfl) hf
def hw_feed (a1 : Int32) (a2 : Int32) (a3 : Int32) (a4 : Int32) (a5 : Int32) (σ : hm_S) (Q : Int32 → hm_S → Prop) : Prop := (((hm_gI (hm_sI σ 0 0) 2) + 20) ≤ 940 → hw_four a1 (hm_sI σ 0 0) (fun σ_22 => (hw_four a2 σ_22 (fun σ_27 => (hw_four a3 σ_27 (fun σ_32 => (hw_four a4 σ_32 (fun σ_38 => (hw_four a5 σ_38 (fun σ_44 => (Q (hm_gI σ_44 2) σ_44))))))))))) ∧ (¬ ((hm_gI (hm_sI σ 0 0) 2) + 20) ≤ 940 → Q (-1) (hm_sI σ 0 0))
set_option maxHeartbeats 4000000 in
set_option maxRecDepth 100000 in
theorem hk_feed (l : Launch) (D : va_G) (dA : Nat → ClassId) (o : Nat) (b : Nat → Nat) (hB : hm_D dA o b) (a1 : Int32) (a2 : Int32) (a3 : Int32) (a4 : Int32) (a5 : Int32) (σ : hm_S) {Q : Int32 → hm_S → Prop} (hf : hw_feed a1 a2 a3 a4 a5 σ Q) : Met l yX5_feed (ws_ yX5_feed cX5_feed 6 (some .int)) (hb_R 1 22) (va_Pc [.ref o, .int a1, .int a2, .int a3, .int a4, .int a5] (hm_U D dA o b σ)) (va_Qi Q (hm_U D dA o b) (hm_A o b)) 0 0 (hm_A o b) := by
  refine hm_Mi hB (LV := [(0, .ref o), (1, .int a1), (2, .int a2), (3, .int a3), (4, .int a4), (5, .int a5)]) (by decide) rfl (Nat.le_of_ble_eq_true rfl) (fun p e s m args below meth c ls QQ C M hl hret => ?_)
  have hx := C.1.1
  have hb := C.1.2.1
  refine lv_aload_n hx hb dX5_feed_0 rfl (lv_at hl 0 rfl) ?_
  refine lv_iconst (v := 0) hx hb dX5_feed_1 rfl ?_
  refine hm_put0 C M q2067 dX5_feed_2 (fun H locs M => ?_)
  refine lv_aload_n hx hb dX5_feed_5 rfl (lv_at hl 0 rfl) ?_
  refine hm_get C M 2 (by decide) q2069 (v := .int (hm_gI (hm_sI σ 0 0) 2)) rfl dX5_feed_6 ?_
  refine lv_bipush (v := 20) hx hb dX5_feed_9 rfl ?_
  refine lv_iadd hx hb dX5_feed_11 ?_
  refine lv_sipush (v := 940) hx hb dX5_feed_12 rfl ?_
  obtain ⟨hft, hff⟩ := hf
  refine lv_icmp_le (tgt := 20) hx hb dX5_feed_15 (by decide) (fun c1 => ?_) (fun c1 => ?_)
  · have hf := hft c1
    refine lv_aload_n hx hb dX5_feed_20 rfl (lv_at hl 0 rfl) ?_
    refine lv_iload_n hx hb dX5_feed_21 rfl (lv_at hl 1 rfl) ?_
    refine hm_cv C M hl.1 (As := [.int a1]) (rest := []) (hk_four l D dA o b hB a1 (hm_sI σ 0 0) hf) (n := 1) q2026 q2028 qs47 q140 q2030 (by decide +kernel) rfl ⟨Nat.le_of_ble_eq_true rfl, Nat.le_of_ble_eq_true rfl⟩ rfl (Nat.le_of_ble_eq_true rfl) dX5_feed_22 (fun σ_22 H locs hf M => ?_)
    refine lv_aload_n hx hb dX5_feed_25 rfl (lv_at hl 0 rfl) ?_
    refine lv_iload_n hx hb dX5_feed_26 rfl (lv_at hl 2 rfl) ?_
    refine hm_cv C M hl.1 (As := [.int a2]) (rest := []) (hk_four l D dA o b hB a2 σ_22 hf) (n := 1) q2026 q2028 qs47 q140 q2030 (by decide +kernel) rfl ⟨Nat.le_of_ble_eq_true rfl, Nat.le_of_ble_eq_true rfl⟩ rfl (Nat.le_of_ble_eq_true rfl) dX5_feed_27 (fun σ_27 H locs hf M => ?_)
    refine lv_aload_n hx hb dX5_feed_30 rfl (lv_at hl 0 rfl) ?_
    refine lv_iload_n hx hb dX5_feed_31 rfl (lv_at hl 3 rfl) ?_
    refine hm_cv C M hl.1 (As := [.int a3]) (rest := []) (hk_four l D dA o b hB a3 σ_27 hf) (n := 1) q2026 q2028 qs47 q140 q2030 (by decide +kernel) rfl ⟨Nat.le_of_ble_eq_true rfl, Nat.le_of_ble_eq_true rfl⟩ rfl (Nat.le_of_ble_eq_true rfl) dX5_feed_32 (fun σ_32 H locs hf M => ?_)
    refine lv_aload_n hx hb dX5_feed_35 rfl (lv_at hl 0 rfl) ?_
    refine lv_iload hx hb dX5_feed_36 (lv_at hl 4 rfl) ?_
    refine hm_cv C M hl.1 (As := [.int a4]) (rest := []) (hk_four l D dA o b hB a4 σ_32 hf) (n := 1) q2026 q2028 qs47 q140 q2030 (by decide +kernel) rfl ⟨Nat.le_of_ble_eq_true rfl, Nat.le_of_ble_eq_true rfl⟩ rfl (Nat.le_of_ble_eq_true rfl) dX5_feed_38 (fun σ_38 H locs hf M => ?_)
    refine lv_aload_n hx hb dX5_feed_41 rfl (lv_at hl 0 rfl) ?_
    refine lv_iload hx hb dX5_feed_42 (lv_at hl 5 rfl) ?_
    refine hm_cv C M hl.1 (As := [.int a5]) (rest := []) (hk_four l D dA o b hB a5 σ_38 hf) (n := 1) q2026 q2028 qs47 q140 q2030 (by decide +kernel) rfl ⟨Nat.le_of_ble_eq_true rfl, Nat.le_of_ble_eq_true rfl⟩ rfl (Nat.le_of_ble_eq_true rfl) dX5_feed_44 (fun σ_44 H locs hf M => ?_)
    refine lv_aload_n hx hb dX5_feed_47 rfl (lv_at hl 0 rfl) ?_
    refine hm_get C M 2 (by decide) q2069 (v := .int (hm_gI σ_44 2)) rfl dX5_feed_48 ?_
    exact hret _ _ _ _ _ _ dX5_feed_51 M hf
  · have hf := hff c1
    refine lv_iconst (v := (-1)) hx hb dX5_feed_18 rfl ?_
    exact hret _ _ _ _ _ _ dX5_feed_19 M hf
def hw_end (a1 : Int32) (σ : hm_S) (Q : Int32 → hm_S → Prop) : Prop := (a1 < 0 → Q 0 (hm_sI σ 0 0)) ∧ (¬ a1 < 0 → (a1 ≤ (hm_gI (hm_sI σ 0 0) 2) → Q 1 (hm_sI (hm_sI σ 0 0) 2 a1)) ∧ (¬ a1 ≤ (hm_gI (hm_sI σ 0 0) 2) → Q 0 (hm_sI σ 0 0)))
set_option maxHeartbeats 4000000 in
set_option maxRecDepth 100000 in
theorem hk_end (l : Launch) (D : va_G) (dA : Nat → ClassId) (o : Nat) (b : Nat → Nat) (hB : hm_D dA o b) (a1 : Int32) (σ : hm_S) {Q : Int32 → hm_S → Prop} (hf : hw_end a1 σ Q) : Met l yX5_end (ws_ yX5_end cX5_end 2 (some .boolean)) (hb_R 0 0) (va_Pc [.ref o, .int a1] (hm_U D dA o b σ)) (va_Qi Q (hm_U D dA o b) (hm_A o b)) 0 0 (hm_A o b) := by
  refine hm_Mz hB (LV := [(0, .ref o), (1, .int a1)]) (by decide) rfl (Nat.le_of_ble_eq_true rfl) (fun p e s m args below meth c ls QQ C M hl hret => ?_)
  have hx := C.1.1
  have hb := C.1.2.1
  refine lv_aload_n hx hb dX5_end_0 rfl (lv_at hl 0 rfl) ?_
  refine lv_iconst (v := 0) hx hb dX5_end_1 rfl ?_
  refine hm_put0 C M q2067 dX5_end_2 (fun H locs M => ?_)
  refine lv_iload_n hx hb dX5_end_5 rfl (lv_at hl 1 rfl) ?_
  obtain ⟨hft, hff⟩ := hf
  refine lv_if_lt (tgt := 17) hx hb dX5_end_6 (by decide) (fun c1 => ?_) (fun c1 => ?_)
  · have hf := hft c1
    refine lv_iconst (v := 0) hx hb dX5_end_17 rfl ?_
    exact hret _ _ _ _ _ _ dX5_end_18 M hb_B0 hf
  · have hf := hff c1
    refine lv_iload_n hx hb dX5_end_9 rfl (lv_at hl 1 rfl) ?_
    refine lv_aload_n hx hb dX5_end_10 rfl (lv_at hl 0 rfl) ?_
    refine hm_get C M 2 (by decide) q2069 (v := .int (hm_gI (hm_sI σ 0 0) 2)) rfl dX5_end_11 ?_
    obtain ⟨hft, hff⟩ := hf
    refine lv_icmp_le (tgt := 19) hx hb dX5_end_14 (by decide) (fun c1 => ?_) (fun c1 => ?_)
    · have hf := hft c1
      refine lv_aload_n hx hb dX5_end_19 rfl (lv_at hl 0 rfl) ?_
      refine lv_iload_n hx hb dX5_end_20 rfl (lv_at hl 1 rfl) ?_
      refine hm_put2 C M q2069 dX5_end_21 (fun H locs M => ?_)
      refine lv_iconst (v := 1) hx hb dX5_end_24 rfl ?_
      exact hret _ _ _ _ _ _ dX5_end_25 M hb_B1 hf
    · have hf := hff c1
      refine lv_iconst (v := 0) hx hb dX5_end_17 rfl ?_
      exact hret _ _ _ _ _ _ dX5_end_18 M hb_B0 hf
def hw_clears_b2 : Nat → Int32 → hm_S → (hm_S → Prop) → Prop
  | 0, _, _, _ => False
  | n2 + 1, v1_2, σ2, Q => (100 ≤ v1_2 → vp_in 2 100 ∧ (Q (hm_sA σ2 7 2 50))) ∧ (¬ 100 ≤ v1_2 → vp_in v1_2 100 ∧ (hw_clears_b2  n2 (v1_2 + 1) (hm_sA σ2 7 v1_2 0) Q))
def hw_clears  (σ : hm_S) (Q : hm_S → Prop) : Prop := ∃ n, hw_clears_b2  n 0 σ Q
set_option maxHeartbeats 4000000 in
set_option maxRecDepth 100000 in
theorem hk_clears (l : Launch) (D : va_G) (dA : Nat → ClassId) (o : Nat) (b : Nat → Nat) (hB : hm_D dA o b)  (σ : hm_S) {Q : hm_S → Prop} (hf : hw_clears  σ Q) : Met l yX5_clears (ws_ yX5_clears cX5_clears 2 none) (hb_R 0 0) (va_Pc [.ref o] (hm_U D dA o b σ)) (va_Qv Q (hm_U D dA o b) (hm_A o b)) 0 0 (hm_A o b) := by
  refine hm_Mv hB (LV := [(0, .ref o)]) (by decide) rfl (Nat.le_of_ble_eq_true rfl) (fun p e s m args below meth c ls QQ C M hl hret => ?_)
  have hx := C.1.1
  have hb := C.1.2.1
  have B2 : ∀ (n2 : Nat) (v1_2 : Int32) (σ2 : hm_S) (H : Heap) (locs : List Loc) (ls : Array Slot), hm_M D dA o b s.heap σ2 H locs → lv_has ls 2 [(0, .ref o), (1, .int v1_2)] → hw_clears_b2  n2 v1_2 σ2 Q → W p l e (hb_R 0 0) s m args below meth c H locs 0 0 QQ (F0 m 2 ls []) := by
    intro n2
    induction n2 with
    | zero => intro v1_2 σ2 H locs ls M hl hf; exact hf.elim
    | succ n2 ih2 =>
      intro v1_2 σ2 H locs ls M hl hf
      refine lv_iload_n hx hb dX5_clears_2 rfl (lv_at hl 1 rfl) ?_
      refine lv_bipush (v := 100) hx hb dX5_clears_3 rfl ?_
      obtain ⟨hft, hff⟩ := hf
      refine lv_icmp_ge (tgt := 21) hx hb dX5_clears_5 (by decide) (fun c1 => ?_) (fun c1 => ?_)
      · have hf := hft c1
        refine lv_aload_n hx hb dX5_clears_21 rfl (lv_at hl 0 rfl) ?_
        refine hm_get C M 7 (by decide) q2074 (v := .ref (b 7)) rfl dX5_clears_22 ?_
        refine lv_iconst (v := 2) hx hb dX5_clears_25 rfl ?_
        refine lv_bipush (v := 50) hx hb dX5_clears_26 rfl ?_
        obtain ⟨g1, hf⟩ := hf
        refine hm_ast7 C M g1 dX5_clears_28 (fun H locs M => ?_)
        exact hret _ _ _ _ _ dX5_clears_29 M hf
      · have hf := hff c1
        refine lv_aload_n hx hb dX5_clears_8 rfl (lv_at hl 0 rfl) ?_
        refine hm_get C M 7 (by decide) q2074 (v := .ref (b 7)) rfl dX5_clears_9 ?_
        refine lv_iload_n hx hb dX5_clears_12 rfl (lv_at hl 1 rfl) ?_
        refine lv_iconst (v := 0) hx hb dX5_clears_13 rfl ?_
        obtain ⟨g1, hf⟩ := hf
        refine hm_ast7 C M g1 dX5_clears_14 (fun H locs M => ?_)
        refine lv_iinc (v := v1_2 + 1) (lv' := [(1, .int (v1_2 + 1)), (0, .ref o)]) hx hb dX5_clears_15 hl (k := 1) rfl rfl (by decide) rfl (fun ls hl => ?_)
        refine lv_goto (tgt := 2) hx hb dX5_clears_18 (by decide) ?_
        exact ih2 (v1_2 + 1) (hm_sA σ2 7 v1_2 0) _ _ _ M (lv_sub hl [1, 0] rfl) hf
  refine lv_iconst (v := 0) hx hb dX5_clears_0 rfl ?_
  refine lv_istore_n (lv' := [(1, .int 0), (0, .ref o)]) hx hb dX5_clears_1 rfl hl (by decide) rfl (fun ls hl => ?_)
  obtain ⟨nn, hf⟩ := hf
  exact B2 nn 0 σ _ _ _ M (lv_sub hl [1, 0] rfl) hf
def hw_isDigit (a0 : Int32) (σ : hm_S) (Q : Int32 → hm_S → Prop) : Prop := (a0 < 48 → Q 0 σ) ∧ (¬ a0 < 48 → (57 < a0 → Q 0 σ) ∧ (¬ 57 < a0 → Q 1 σ))
set_option maxHeartbeats 4000000 in
set_option maxRecDepth 100000 in
theorem hk_isDigit (l : Launch) (D : va_G) (dA : Nat → ClassId) (o : Nat) (b : Nat → Nat) (hB : hm_D dA o b) (a0 : Int32) (σ : hm_S) {Q : Int32 → hm_S → Prop} (hf : hw_isDigit a0 σ Q) : Met l yX5_isDigit (ws_ yX5_isDigit cX5_isDigit 1 (some .boolean)) (hb_R 0 0) (va_Pc [.int a0] (hm_U D dA o b σ)) (va_Qi Q (hm_U D dA o b) (hm_A o b)) 0 0 (hm_A o b) := by
  refine hm_Mz hB (LV := [(0, .int a0)]) (by decide) rfl (Nat.le_of_ble_eq_true rfl) (fun p e s m args below meth c ls QQ C M hl hret => ?_)
  have hx := C.1.1
  have hb := C.1.2.1
  refine lv_iload_n hx hb dX5_isDigit_0 rfl (lv_at hl 0 rfl) ?_
  refine lv_bipush (v := 48) hx hb dX5_isDigit_1 rfl ?_
  obtain ⟨hft, hff⟩ := hf
  refine lv_icmp_lt (tgt := 16) hx hb dX5_isDigit_3 (by decide) (fun c1 => ?_) (fun c1 => ?_)
  · have hf := hft c1
    refine lv_iconst (v := 0) hx hb dX5_isDigit_16 rfl ?_
    exact hret _ _ _ _ _ _ dX5_isDigit_17 M hb_B0 hf
  · have hf := hff c1
    refine lv_iload_n hx hb dX5_isDigit_6 rfl (lv_at hl 0 rfl) ?_
    refine lv_bipush (v := 57) hx hb dX5_isDigit_7 rfl ?_
    obtain ⟨hft, hff⟩ := hf
    refine lv_icmp_gt (tgt := 16) hx hb dX5_isDigit_9 (by decide) (fun c1 => ?_) (fun c1 => ?_)
    · have hf := hft c1
      refine lv_iconst (v := 0) hx hb dX5_isDigit_16 rfl ?_
      exact hret _ _ _ _ _ _ dX5_isDigit_17 M hb_B0 hf
    · have hf := hff c1
      refine lv_iconst (v := 1) hx hb dX5_isDigit_12 rfl ?_
      refine lv_goto (tgt := 17) hx hb dX5_isDigit_13 (by decide) ?_
      exact hret _ _ _ _ _ _ dX5_isDigit_17 M hb_B1 hf
def hw_isSmall (a0 : Int32) (σ : hm_S) (Q : Int32 → hm_S → Prop) : Prop := (a0 < 97 → Q 0 σ) ∧ (¬ a0 < 97 → (122 < a0 → Q 0 σ) ∧ (¬ 122 < a0 → Q 1 σ))
set_option maxHeartbeats 4000000 in
set_option maxRecDepth 100000 in
theorem hk_isSmall (l : Launch) (D : va_G) (dA : Nat → ClassId) (o : Nat) (b : Nat → Nat) (hB : hm_D dA o b) (a0 : Int32) (σ : hm_S) {Q : Int32 → hm_S → Prop} (hf : hw_isSmall a0 σ Q) : Met l yX5_isSmall (ws_ yX5_isSmall cX5_isSmall 1 (some .boolean)) (hb_R 0 0) (va_Pc [.int a0] (hm_U D dA o b σ)) (va_Qi Q (hm_U D dA o b) (hm_A o b)) 0 0 (hm_A o b) := by
  refine hm_Mz hB (LV := [(0, .int a0)]) (by decide) rfl (Nat.le_of_ble_eq_true rfl) (fun p e s m args below meth c ls QQ C M hl hret => ?_)
  have hx := C.1.1
  have hb := C.1.2.1
  refine lv_iload_n hx hb dX5_isSmall_0 rfl (lv_at hl 0 rfl) ?_
  refine lv_bipush (v := 97) hx hb dX5_isSmall_1 rfl ?_
  obtain ⟨hft, hff⟩ := hf
  refine lv_icmp_lt (tgt := 16) hx hb dX5_isSmall_3 (by decide) (fun c1 => ?_) (fun c1 => ?_)
  · have hf := hft c1
    refine lv_iconst (v := 0) hx hb dX5_isSmall_16 rfl ?_
    exact hret _ _ _ _ _ _ dX5_isSmall_17 M hb_B0 hf
  · have hf := hff c1
    refine lv_iload_n hx hb dX5_isSmall_6 rfl (lv_at hl 0 rfl) ?_
    refine lv_bipush (v := 122) hx hb dX5_isSmall_7 rfl ?_
    obtain ⟨hft, hff⟩ := hf
    refine lv_icmp_gt (tgt := 16) hx hb dX5_isSmall_9 (by decide) (fun c1 => ?_) (fun c1 => ?_)
    · have hf := hft c1
      refine lv_iconst (v := 0) hx hb dX5_isSmall_16 rfl ?_
      exact hret _ _ _ _ _ _ dX5_isSmall_17 M hb_B0 hf
    · have hf := hff c1
      refine lv_iconst (v := 1) hx hb dX5_isSmall_12 rfl ?_
      refine lv_goto (tgt := 17) hx hb dX5_isSmall_13 (by decide) ?_
      exact hret _ _ _ _ _ _ dX5_isSmall_17 M hb_B1 hf
def hw_peek  (σ : hm_S) (Q : Int32 → hm_S → Prop) : Prop := ((hm_gI σ 3) ≤ (hm_gI σ 4) → Q (-1) σ) ∧ (¬ (hm_gI σ 3) ≤ (hm_gI σ 4) → vp_in (hm_gI σ 4) 940 ∧ (Q ((hm_gA σ 1 (hm_gI σ 4)) &&& 255) σ))
set_option maxHeartbeats 4000000 in
set_option maxRecDepth 100000 in
theorem hk_peek (l : Launch) (D : va_G) (dA : Nat → ClassId) (o : Nat) (b : Nat → Nat) (hB : hm_D dA o b)  (σ : hm_S) {Q : Int32 → hm_S → Prop} (hf : hw_peek  σ Q) : Met l yX5_peek (ws_ yX5_peek cX5_peek 1 (some .int)) (hb_R 0 0) (va_Pc [.ref o] (hm_U D dA o b σ)) (va_Qi Q (hm_U D dA o b) (hm_A o b)) 0 0 (hm_A o b) := by
  refine hm_Mi hB (LV := [(0, .ref o)]) (by decide) rfl (Nat.le_of_ble_eq_true rfl) (fun p e s m args below meth c ls QQ C M hl hret => ?_)
  have hx := C.1.1
  have hb := C.1.2.1
  refine lv_aload_n hx hb dX5_peek_0 rfl (lv_at hl 0 rfl) ?_
  refine hm_get C M 4 (by decide) q2071 (v := .int (hm_gI σ 4)) rfl dX5_peek_1 ?_
  refine lv_aload_n hx hb dX5_peek_4 rfl (lv_at hl 0 rfl) ?_
  refine hm_get C M 3 (by decide) q2070 (v := .int (hm_gI σ 3)) rfl dX5_peek_5 ?_
  obtain ⟨hft, hff⟩ := hf
  refine lv_icmp_ge (tgt := 27) hx hb dX5_peek_8 (by decide) (fun c1 => ?_) (fun c1 => ?_)
  · have hf := hft c1
    refine lv_iconst (v := (-1)) hx hb dX5_peek_27 rfl ?_
    exact hret _ _ _ _ _ _ dX5_peek_28 M hf
  · have hf := hff c1
    refine lv_aload_n hx hb dX5_peek_11 rfl (lv_at hl 0 rfl) ?_
    refine hm_get C M 1 (by decide) q2068 (v := .ref (b 1)) rfl dX5_peek_12 ?_
    refine lv_aload_n hx hb dX5_peek_15 rfl (lv_at hl 0 rfl) ?_
    refine hm_get C M 4 (by decide) q2071 (v := .int (hm_gI σ 4)) rfl dX5_peek_16 ?_
    obtain ⟨g1, hf⟩ := hf
    refine hm_ald1 C M g1 dX5_peek_19 ?_
    refine lv_sipush (v := 255) hx hb dX5_peek_20 rfl ?_
    refine lv_iand hx hb dX5_peek_23 ?_
    refine lv_goto (tgt := 28) hx hb dX5_peek_24 (by decide) ?_
    exact hret _ _ _ _ _ _ dX5_peek_28 M hf
def hw_next_b317 (v2_317 : Int32) (t1_317 : Int32) (t2_317 : Int32) (σ317 : hm_S) (Q : hm_S → Prop) : Prop := (t1_317 ≤ t2_317 → (v2_317 = 0 → Q (hm_sI σ317 11 2)) ∧ (¬ v2_317 = 0 → Q (hm_sI σ317 11 1))) ∧ (¬ t1_317 ≤ t2_317 → Q (hm_sI σ317 11 4))
def hw_next_b248 (k181 : Int32 → Int32 → hm_S → Prop) (v2_248 : Int32) (v3_248 : Int32) (σ248 : hm_S) (Q : hm_S → Prop) : Prop := (3 ≤ (hm_gI σ248 13) → k181 v2_248 v3_248 (hm_sI (hm_sI σ248 13 ((hm_gI σ248 13) + 1)) 4 ((hm_gI (hm_sI σ248 13 ((hm_gI σ248 13) + 1)) 4) + 1))) ∧ (¬ 3 ≤ (hm_gI σ248 13) → hw_peek  σ248 (fun r_265 σ_265 => (k181 v2_248 v3_248 (hm_sI (hm_sI (hm_sI σ_265 14 (((10 * (hm_gI σ248 14)) + r_265) - 48)) 13 ((hm_gI (hm_sI σ_265 14 (((10 * (hm_gI σ248 14)) + r_265) - 48)) 13) + 1)) 4 ((hm_gI (hm_sI (hm_sI σ_265 14 (((10 * (hm_gI σ248 14)) + r_265) - 48)) 13 ((hm_gI (hm_sI σ_265 14 (((10 * (hm_gI σ248 14)) + r_265) - 48)) 13) + 1)) 4) + 1)))))
def hw_next_b221 (k181 : Int32 → Int32 → hm_S → Prop) (v2_221 : Int32) (t0_221 : Int32) (σ221 : hm_S) (Q : hm_S → Prop) : Prop := (7 ≤ (hm_gI σ221 13) → hw_next_b248 k181 v2_221 t0_221 σ221 Q) ∧ (¬ 7 ≤ (hm_gI σ221 13) → hw_peek  σ221 (fun r_240 σ_240 => (hw_next_b248 k181 v2_221 t0_221 (hm_sW σ_240 (((hm_gW σ221) <<< ((8 : Int32).toInt64 &&& 63)) ||| r_240.toInt64)) Q)))
def hw_next_b220 (k181 : Int32 → Int32 → hm_S → Prop) (v2_220 : Int32) (σ220 : hm_S) (Q : hm_S → Prop) : Prop := hw_next_b221 k181 v2_220 0 σ220 Q
def hw_next_b201 (k181 : Int32 → Int32 → hm_S → Prop) (v2_201 : Int32) (v3_201 : Int32) (σ201 : hm_S) (Q : hm_S → Prop) : Prop := (v3_201 = 0 → hw_next_b220 k181 v2_201 σ201 Q) ∧ (¬ v3_201 = 0 → hw_peek  σ201 (fun r_206 σ_206 => (hw_isSmall r_206 σ_206 (fun r_209 σ_209 => ((¬ r_209 = v2_201 → hw_next_b220 k181 v2_201 σ_209 Q) ∧ (r_209 = v2_201 → hw_next_b221 k181 v2_201 1 σ_209 Q))))))
def hw_next_b181 : Nat → Int32 → Int32 → hm_S → (hm_S → Prop) → Prop
  | 0, _, _, _, _ => False
  | n181 + 1, v2_181, v3_181, σ181, Q => hw_peek  σ181 (fun r_182 σ_182 => (hw_isSmall r_182 σ_182 (fun r_185 σ_185 => ((¬ r_185 = 0 → hw_next_b201 (fun (u0 : Int32) (u1 : Int32) (τ : hm_S) => hw_next_b181  n181 u0 u1 τ Q) v2_181 v3_181 σ_185 Q) ∧ (r_185 = 0 → hw_peek  σ_185 (fun r_192 σ_192 => (hw_isDigit r_192 σ_192 (fun r_195 σ_195 => ((r_195 = 0 → (v3_181 = 0 → Q (hm_sI σ_195 11 4)) ∧ (¬ v3_181 = 0 → (v2_181 = 0 → hw_next_b317  v2_181 (hm_gI σ_195 13) 3 σ_195 Q) ∧ (¬ v2_181 = 0 → hw_next_b317  v2_181 (hm_gI σ_195 13) 7 σ_195 Q))) ∧ (¬ r_195 = 0 → hw_next_b201 (fun (u0 : Int32) (u1 : Int32) (τ : hm_S) => hw_next_b181  n181 u0 u1 τ Q) v2_181 v3_181 σ_195 Q))))))))))
def hw_next_b80  (σ80 : hm_S) (Q : hm_S → Prop) : Prop := hw_peek  σ80 (fun r_81 σ_81 => ((0 ≤ r_81 → hw_isSmall r_81 σ_81 (fun r_96 σ_96 => ((¬ r_96 = 0 → hw_isSmall r_81 σ_96 (fun r_165 σ_165 => (∃ n, hw_next_b181  n r_165 1 (hm_sI (hm_sW σ_165 0) 14 0) Q))) ∧ (r_96 = 0 → hw_isDigit r_81 σ_96 (fun r_103 σ_103 => ((¬ r_103 = 0 → hw_isSmall r_81 σ_103 (fun r_165 σ_165 => (∃ n, hw_next_b181  n r_165 1 (hm_sI (hm_sW σ_165 0) 14 0) Q))) ∧ (r_103 = 0 → (r_81 = 59 → Q (hm_sI (hm_sI (hm_sI σ_103 11 3) 14 r_81) 4 ((hm_gI (hm_sI (hm_sI σ_103 11 3) 14 r_81) 4) + 1))) ∧ (¬ r_81 = 59 → (r_81 = 40 → Q (hm_sI (hm_sI (hm_sI σ_103 11 3) 14 r_81) 4 ((hm_gI (hm_sI (hm_sI σ_103 11 3) 14 r_81) 4) + 1))) ∧ (¬ r_81 = 40 → (r_81 = 41 → Q (hm_sI (hm_sI (hm_sI σ_103 11 3) 14 r_81) 4 ((hm_gI (hm_sI (hm_sI σ_103 11 3) 14 r_81) 4) + 1))) ∧ (¬ r_81 = 41 → (r_81 < 60 → Q (hm_sI (hm_sI (hm_sI σ_103 11 4) 14 r_81) 4 ((hm_gI (hm_sI (hm_sI σ_103 11 4) 14 r_81) 4) + 1))) ∧ (¬ r_81 < 60 → (62 < r_81 → Q (hm_sI (hm_sI (hm_sI σ_103 11 4) 14 r_81) 4 ((hm_gI (hm_sI (hm_sI σ_103 11 4) 14 r_81) 4) + 1))) ∧ (¬ 62 < r_81 → Q (hm_sI (hm_sI (hm_sI σ_103 11 3) 14 r_81) 4 ((hm_gI (hm_sI (hm_sI σ_103 11 3) 14 r_81) 4) + 1)))))))))))))) ∧ (¬ 0 ≤ r_81 → Q (hm_sI σ_81 11 0))))
def hw_next_b0 : Nat → hm_S → (hm_S → Prop) → Prop
  | 0, _, _ => False
  | n0 + 1, σ0, Q => hw_peek  σ0 (fun r_1 σ_1 => ((r_1 = 32 → hw_next_b0  n0  (hm_sI σ_1 4 ((hm_gI σ_1 4) + 1)) Q) ∧ (¬ r_1 = 32 → hw_peek  σ_1 (fun r_10 σ_10 => ((¬ r_10 = 10 → ((hm_gI (hm_sI (hm_sI σ_10 12 (hm_gI σ_10 4)) 13 0) 3) ≤ (hm_gI (hm_sI (hm_sI σ_10 12 (hm_gI σ_10 4)) 13 0) 5) → hw_next_b80   (hm_sI (hm_sI σ_10 12 (hm_gI σ_10 4)) 13 0) Q) ∧ (¬ (hm_gI (hm_sI (hm_sI σ_10 12 (hm_gI σ_10 4)) 13 0) 3) ≤ (hm_gI (hm_sI (hm_sI σ_10 12 (hm_gI σ_10 4)) 13 0) 5) → ((hm_gI (hm_sI (hm_sI σ_10 12 (hm_gI σ_10 4)) 13 0) 4) < (hm_gI (hm_sI (hm_sI σ_10 12 (hm_gI σ_10 4)) 13 0) 5) → hw_next_b80   (hm_sI (hm_sI σ_10 12 (hm_gI σ_10 4)) 13 0) Q) ∧ (¬ (hm_gI (hm_sI (hm_sI σ_10 12 (hm_gI σ_10 4)) 13 0) 4) < (hm_gI (hm_sI (hm_sI σ_10 12 (hm_gI σ_10 4)) 13 0) 5) → Q (hm_sI (hm_sI (hm_sI (hm_sI σ_10 12 (hm_gI σ_10 4)) 13 0) 12 (hm_gI (hm_sI (hm_sI σ_10 12 (hm_gI σ_10 4)) 13 0) 5)) 11 4)))) ∧ (r_10 = 10 → hw_next_b0  n0  (hm_sI σ_10 4 ((hm_gI σ_10 4) + 1)) Q))))))
def hw_next  (σ : hm_S) (Q : hm_S → Prop) : Prop := ∃ n, hw_next_b0  n  σ Q
set_option maxHeartbeats 4000000 in
set_option maxRecDepth 100000 in
theorem hk_next (l : Launch) (D : va_G) (dA : Nat → ClassId) (o : Nat) (b : Nat → Nat) (hB : hm_D dA o b)  (σ : hm_S) {Q : hm_S → Prop} (hf : hw_next  σ Q) : Met l yX5_next (ws_ yX5_next cX5_next 4 none) (hb_R 1 20) (va_Pc [.ref o] (hm_U D dA o b σ)) (va_Qv Q (hm_U D dA o b) (hm_A o b)) 0 0 (hm_A o b) := by
  refine hm_Mv hB (LV := [(0, .ref o)]) (by decide) rfl (Nat.le_of_ble_eq_true rfl) (fun p e s m args below meth c ls QQ C M hl hret => ?_)
  have hx := C.1.1
  have hb := C.1.2.1
  have B317 : ∀ (v2_317 : Int32) (t1_317 : Int32) (t2_317 : Int32) (σ317 : hm_S) (H : Heap) (locs : List Loc) (ls : Array Slot), hm_M D dA o b s.heap σ317 H locs → lv_has ls 4 [(0, .ref o), (2, .int v2_317)] → hw_next_b317  v2_317 t1_317 t2_317 σ317 Q → W p l e (hb_R 1 20) s m args below meth c H locs 0 0 QQ (F0 m 317 ls [.int t2_317, .int t1_317, .ref o]) := by
    intro v2_317 t1_317 t2_317 σ317 H locs ls M hl hf
    obtain ⟨hft, hff⟩ := hf
    refine lv_icmp_le (tgt := 324) hx hb dX5_next_317 (by decide) (fun c1 => ?_) (fun c1 => ?_)
    · have hf := hft c1
      refine lv_iload_n hx hb dX5_next_324 rfl (lv_at hl 1 rfl) ?_
      obtain ⟨hft, hff⟩ := hf
      refine lv_if_eq (tgt := 332) hx hb dX5_next_325 (by decide) (fun c1 => ?_) (fun c1 => ?_)
      · have hf := hft c1
        refine lv_iconst (v := 2) hx hb dX5_next_332 rfl ?_
        refine hm_put11 C M q2078 dX5_next_333 (fun H locs M => ?_)
        exact hret _ _ _ _ _ dX5_next_336 M hf
      · have hf := hff c1
        refine lv_iconst (v := 1) hx hb dX5_next_328 rfl ?_
        refine lv_goto (tgt := 333) hx hb dX5_next_329 (by decide) ?_
        refine hm_put11 C M q2078 dX5_next_333 (fun H locs M => ?_)
        exact hret _ _ _ _ _ dX5_next_336 M hf
    · have hf := hff c1
      refine lv_iconst (v := 4) hx hb dX5_next_320 rfl ?_
      refine lv_goto (tgt := 333) hx hb dX5_next_321 (by decide) ?_
      refine hm_put11 C M q2078 dX5_next_333 (fun H locs M => ?_)
      exact hret _ _ _ _ _ dX5_next_336 M hf
  have B181 : ∀ (n181 : Nat) (v2_181 : Int32) (v3_181 : Int32) (σ181 : hm_S) (H : Heap) (locs : List Loc) (ls : Array Slot), hm_M D dA o b s.heap σ181 H locs → lv_has ls 4 [(0, .ref o), (2, .int v2_181), (3, .int v3_181)] → hw_next_b181  n181 v2_181 v3_181 σ181 Q → W p l e (hb_R 1 20) s m args below meth c H locs 0 0 QQ (F0 m 181 ls []) := by
    intro n181
    induction n181 with
    | zero => intro v2_181 v3_181 σ181 H locs ls M hl hf; exact hf.elim
    | succ n181 ih181 =>
      have B248 : ∀ (v2_248 : Int32) (v3_248 : Int32) (σ248 : hm_S) (H : Heap) (locs : List Loc) (ls : Array Slot), hm_M D dA o b s.heap σ248 H locs → lv_has ls 4 [(0, .ref o), (2, .int v2_248), (3, .int v3_248)] → hw_next_b248 (fun (u0 : Int32) (u1 : Int32) (τ : hm_S) => hw_next_b181  n181 u0 u1 τ Q) v2_248 v3_248 σ248 Q → W p l e (hb_R 1 20) s m args below meth c H locs 0 0 QQ (F0 m 248 ls []) := by
        intro v2_248 v3_248 σ248 H locs ls M hl hf
        refine lv_aload_n hx hb dX5_next_248 rfl (lv_at hl 0 rfl) ?_
        refine hm_get C M 13 (by decide) q2080 (v := .int (hm_gI σ248 13)) rfl dX5_next_249 ?_
        refine lv_iconst (v := 3) hx hb dX5_next_252 rfl ?_
        obtain ⟨hft, hff⟩ := hf
        refine lv_icmp_ge (tgt := 275) hx hb dX5_next_253 (by decide) (fun c1 => ?_) (fun c1 => ?_)
        · have hf := hft c1
          refine lv_aload_n hx hb dX5_next_275 rfl (lv_at hl 0 rfl) ?_
          refine lv_dup hx hb dX5_next_276 rfl ?_
          refine hm_get C M 13 (by decide) q2080 (v := .int (hm_gI σ248 13)) rfl dX5_next_277 ?_
          refine lv_iconst (v := 1) hx hb dX5_next_280 rfl ?_
          refine lv_iadd hx hb dX5_next_281 ?_
          refine hm_put13 C M q2080 dX5_next_282 (fun H locs M => ?_)
          refine lv_aload_n hx hb dX5_next_285 rfl (lv_at hl 0 rfl) ?_
          refine lv_dup hx hb dX5_next_286 rfl ?_
          refine hm_get C M 4 (by decide) q2071 (v := .int (hm_gI (hm_sI σ248 13 ((hm_gI σ248 13) + 1)) 4)) rfl dX5_next_287 ?_
          refine lv_iconst (v := 1) hx hb dX5_next_290 rfl ?_
          refine lv_iadd hx hb dX5_next_291 ?_
          refine hm_put4 C M q2071 dX5_next_292 (fun H locs M => ?_)
          refine lv_goto (tgt := 181) hx hb dX5_next_295 (by decide) ?_
          exact ih181 v2_248 v3_248 (hm_sI (hm_sI σ248 13 ((hm_gI σ248 13) + 1)) 4 ((hm_gI (hm_sI σ248 13 ((hm_gI σ248 13) + 1)) 4) + 1)) _ _ _ M (lv_sub hl [0, 1, 2] rfl) hf
        · have hf := hff c1
          refine lv_aload_n hx hb dX5_next_256 rfl (lv_at hl 0 rfl) ?_
          refine lv_bipush (v := 10) hx hb dX5_next_257 rfl ?_
          refine lv_aload_n hx hb dX5_next_259 rfl (lv_at hl 0 rfl) ?_
          refine hm_get C M 14 (by decide) q2081 (v := .int (hm_gI σ248 14)) rfl dX5_next_260 ?_
          refine lv_imul hx hb dX5_next_263 ?_
          refine lv_aload_n hx hb dX5_next_264 rfl (lv_at hl 0 rfl) ?_
          refine hm_ci C M hl.1 (As := []) (rest := [.int (10 * (hm_gI σ248 14)), .ref o]) (hk_peek l D dA o b hB  σ248 hf) (n := 0) q2238 q2240 qs51 q140 q2241 (by decide +kernel) rfl ⟨Nat.le_of_ble_eq_true rfl, Nat.le_of_ble_eq_true rfl⟩ rfl (Nat.le_of_ble_eq_true rfl) dX5_next_265 (fun r_265 σ_265 H locs hf M => ?_)
          refine lv_iadd hx hb dX5_next_268 ?_
          refine lv_bipush (v := 48) hx hb dX5_next_269 rfl ?_
          refine lv_isub hx hb dX5_next_271 ?_
          refine hm_put14 C M q2081 dX5_next_272 (fun H locs M => ?_)
          refine lv_aload_n hx hb dX5_next_275 rfl (lv_at hl 0 rfl) ?_
          refine lv_dup hx hb dX5_next_276 rfl ?_
          refine hm_get C M 13 (by decide) q2080 (v := .int (hm_gI (hm_sI σ_265 14 (((10 * (hm_gI σ248 14)) + r_265) - 48)) 13)) rfl dX5_next_277 ?_
          refine lv_iconst (v := 1) hx hb dX5_next_280 rfl ?_
          refine lv_iadd hx hb dX5_next_281 ?_
          refine hm_put13 C M q2080 dX5_next_282 (fun H locs M => ?_)
          refine lv_aload_n hx hb dX5_next_285 rfl (lv_at hl 0 rfl) ?_
          refine lv_dup hx hb dX5_next_286 rfl ?_
          refine hm_get C M 4 (by decide) q2071 (v := .int (hm_gI (hm_sI (hm_sI σ_265 14 (((10 * (hm_gI σ248 14)) + r_265) - 48)) 13 ((hm_gI (hm_sI σ_265 14 (((10 * (hm_gI σ248 14)) + r_265) - 48)) 13) + 1)) 4)) rfl dX5_next_287 ?_
          refine lv_iconst (v := 1) hx hb dX5_next_290 rfl ?_
          refine lv_iadd hx hb dX5_next_291 ?_
          refine hm_put4 C M q2071 dX5_next_292 (fun H locs M => ?_)
          refine lv_goto (tgt := 181) hx hb dX5_next_295 (by decide) ?_
          exact ih181 v2_248 v3_248 (hm_sI (hm_sI (hm_sI σ_265 14 (((10 * (hm_gI σ248 14)) + r_265) - 48)) 13 ((hm_gI (hm_sI σ_265 14 (((10 * (hm_gI σ248 14)) + r_265) - 48)) 13) + 1)) 4 ((hm_gI (hm_sI (hm_sI σ_265 14 (((10 * (hm_gI σ248 14)) + r_265) - 48)) 13 ((hm_gI (hm_sI σ_265 14 (((10 * (hm_gI σ248 14)) + r_265) - 48)) 13) + 1)) 4) + 1)) _ _ _ M (lv_sub hl [0, 1, 2] rfl) hf
      have B221 : ∀ (v2_221 : Int32) (t0_221 : Int32) (σ221 : hm_S) (H : Heap) (locs : List Loc) (ls : Array Slot), hm_M D dA o b s.heap σ221 H locs → lv_has ls 4 [(0, .ref o), (2, .int v2_221)] → hw_next_b221 (fun (u0 : Int32) (u1 : Int32) (τ : hm_S) => hw_next_b181  n181 u0 u1 τ Q) v2_221 t0_221 σ221 Q → W p l e (hb_R 1 20) s m args below meth c H locs 0 0 QQ (F0 m 221 ls [.int t0_221]) := by
        intro v2_221 t0_221 σ221 H locs ls M hl hf
        refine lv_istore_n (lv' := [(3, .int t0_221), (0, .ref o), (2, .int v2_221)]) hx hb dX5_next_221 rfl hl (by decide) rfl (fun ls hl => ?_)
        refine lv_aload_n hx hb dX5_next_222 rfl (lv_at hl 1 rfl) ?_
        refine hm_get C M 13 (by decide) q2080 (v := .int (hm_gI σ221 13)) rfl dX5_next_223 ?_
        refine lv_bipush (v := 7) hx hb dX5_next_226 rfl ?_
        obtain ⟨hft, hff⟩ := hf
        refine lv_icmp_ge (tgt := 248) hx hb dX5_next_228 (by decide) (fun c1 => ?_) (fun c1 => ?_)
        · have hf := hft c1
          exact B248 v2_221 t0_221 σ221 _ _ _ M (lv_sub hl [1, 2, 0] rfl) hf
        · have hf := hff c1
          refine lv_aload_n hx hb dX5_next_231 rfl (lv_at hl 1 rfl) ?_
          refine lv_aload_n hx hb dX5_next_232 rfl (lv_at hl 1 rfl) ?_
          refine hm_get C M 17 (by decide) q2084 (v := .long (hm_gW σ221)) rfl dX5_next_233 ?_
          refine lv_bipush (v := 8) hx hb dX5_next_236 rfl ?_
          refine lv_lshl hx hb dX5_next_238 rfl ?_
          refine lv_aload_n hx hb dX5_next_239 rfl (lv_at hl 1 rfl) ?_
          refine hm_ci C M hl.1 (As := []) (rest := [.long ((hm_gW σ221) <<< ((8 : Int32).toInt64 &&& 63)), .ref o]) (hk_peek l D dA o b hB  σ221 hf) (n := 0) q2238 q2240 qs51 q140 q2241 (by decide +kernel) rfl ⟨Nat.le_of_ble_eq_true rfl, Nat.le_of_ble_eq_true rfl⟩ rfl (Nat.le_of_ble_eq_true rfl) dX5_next_240 (fun r_240 σ_240 H locs hf M => ?_)
          refine lv_i2l hx hb dX5_next_243 rfl ?_
          refine lv_lor hx hb dX5_next_244 ?_
          refine hm_put17 C M q2084 dX5_next_245 (fun H locs M => ?_)
          exact B248 v2_221 t0_221 (hm_sW σ_240 (((hm_gW σ221) <<< ((8 : Int32).toInt64 &&& 63)) ||| r_240.toInt64)) _ _ _ M (lv_sub hl [1, 2, 0] rfl) hf
      have B220 : ∀ (v2_220 : Int32) (σ220 : hm_S) (H : Heap) (locs : List Loc) (ls : Array Slot), hm_M D dA o b s.heap σ220 H locs → lv_has ls 4 [(0, .ref o), (2, .int v2_220)] → hw_next_b220 (fun (u0 : Int32) (u1 : Int32) (τ : hm_S) => hw_next_b181  n181 u0 u1 τ Q) v2_220 σ220 Q → W p l e (hb_R 1 20) s m args below meth c H locs 0 0 QQ (F0 m 220 ls []) := by
        intro v2_220 σ220 H locs ls M hl hf
        refine lv_iconst (v := 0) hx hb dX5_next_220 rfl ?_
        exact B221 v2_220 0 σ220 _ _ _ M (lv_sub hl [0, 1] rfl) hf
      have B201 : ∀ (v2_201 : Int32) (v3_201 : Int32) (σ201 : hm_S) (H : Heap) (locs : List Loc) (ls : Array Slot), hm_M D dA o b s.heap σ201 H locs → lv_has ls 4 [(0, .ref o), (2, .int v2_201), (3, .int v3_201)] → hw_next_b201 (fun (u0 : Int32) (u1 : Int32) (τ : hm_S) => hw_next_b181  n181 u0 u1 τ Q) v2_201 v3_201 σ201 Q → W p l e (hb_R 1 20) s m args below meth c H locs 0 0 QQ (F0 m 201 ls []) := by
        intro v2_201 v3_201 σ201 H locs ls M hl hf
        refine lv_iload_n hx hb dX5_next_201 rfl (lv_at hl 2 rfl) ?_
        obtain ⟨hft, hff⟩ := hf
        refine lv_if_eq (tgt := 220) hx hb dX5_next_202 (by decide) (fun c1 => ?_) (fun c1 => ?_)
        · have hf := hft c1
          exact B220 v2_201 σ201 _ _ _ M (lv_sub hl [0, 1] rfl) hf
        · have hf := hff c1
          refine lv_aload_n hx hb dX5_next_205 rfl (lv_at hl 0 rfl) ?_
          refine hm_ci C M hl.1 (As := []) (rest := []) (hk_peek l D dA o b hB  σ201 hf) (n := 0) q2238 q2240 qs51 q140 q2241 (by decide +kernel) rfl ⟨Nat.le_of_ble_eq_true rfl, Nat.le_of_ble_eq_true rfl⟩ rfl (Nat.le_of_ble_eq_true rfl) dX5_next_206 (fun r_206 σ_206 H locs hf M => ?_)
          refine hm_csi C M hl.1 (As := [.int r_206]) (rest := []) (hk_isSmall l D dA o b hB r_206 σ_206 hf) (n := 1) q2242 q2243 q140 q2244 (by decide +kernel) rfl ⟨Nat.le_of_ble_eq_true rfl, Nat.le_of_ble_eq_true rfl⟩ rfl (Nat.le_of_ble_eq_true rfl) dX5_next_209 (fun r_209 σ_209 H locs hf M => ?_)
          refine lv_iload_n hx hb dX5_next_212 rfl (lv_at hl 1 rfl) ?_
          obtain ⟨hft, hff⟩ := hf
          refine lv_icmp_ne (tgt := 220) hx hb dX5_next_213 (by decide) (fun c1 => ?_) (fun c1 => ?_)
          · have hf := hft c1
            exact B220 v2_201 σ_209 _ _ _ M (lv_sub hl [0, 1] rfl) hf
          · have hf := hff c1
            refine lv_iconst (v := 1) hx hb dX5_next_216 rfl ?_
            refine lv_goto (tgt := 221) hx hb dX5_next_217 (by decide) ?_
            exact B221 v2_201 1 σ_209 _ _ _ M (lv_sub hl [0, 1] rfl) hf
      intro v2_181 v3_181 σ181 H locs ls M hl hf
      refine lv_aload_n hx hb dX5_next_181 rfl (lv_at hl 0 rfl) ?_
      refine hm_ci C M hl.1 (As := []) (rest := []) (hk_peek l D dA o b hB  σ181 hf) (n := 0) q2238 q2240 qs51 q140 q2241 (by decide +kernel) rfl ⟨Nat.le_of_ble_eq_true rfl, Nat.le_of_ble_eq_true rfl⟩ rfl (Nat.le_of_ble_eq_true rfl) dX5_next_182 (fun r_182 σ_182 H locs hf M => ?_)
      refine hm_csi C M hl.1 (As := [.int r_182]) (rest := []) (hk_isSmall l D dA o b hB r_182 σ_182 hf) (n := 1) q2242 q2243 q140 q2244 (by decide +kernel) rfl ⟨Nat.le_of_ble_eq_true rfl, Nat.le_of_ble_eq_true rfl⟩ rfl (Nat.le_of_ble_eq_true rfl) dX5_next_185 (fun r_185 σ_185 H locs hf M => ?_)
      obtain ⟨hft, hff⟩ := hf
      refine lv_if_ne (tgt := 201) hx hb dX5_next_188 (by decide) (fun c1 => ?_) (fun c1 => ?_)
      · have hf := hft c1
        exact B201 v2_181 v3_181 σ_185 _ _ _ M (lv_sub hl [0, 1, 2] rfl) hf
      · have hf := hff c1
        refine lv_aload_n hx hb dX5_next_191 rfl (lv_at hl 0 rfl) ?_
        refine hm_ci C M hl.1 (As := []) (rest := []) (hk_peek l D dA o b hB  σ_185 hf) (n := 0) q2238 q2240 qs51 q140 q2241 (by decide +kernel) rfl ⟨Nat.le_of_ble_eq_true rfl, Nat.le_of_ble_eq_true rfl⟩ rfl (Nat.le_of_ble_eq_true rfl) dX5_next_192 (fun r_192 σ_192 H locs hf M => ?_)
        refine hm_csi C M hl.1 (As := [.int r_192]) (rest := []) (hk_isDigit l D dA o b hB r_192 σ_192 hf) (n := 1) q2245 q2246 q140 q2247 (by decide +kernel) rfl ⟨Nat.le_of_ble_eq_true rfl, Nat.le_of_ble_eq_true rfl⟩ rfl (Nat.le_of_ble_eq_true rfl) dX5_next_195 (fun r_195 σ_195 H locs hf M => ?_)
        obtain ⟨hft, hff⟩ := hf
        refine lv_if_eq (tgt := 298) hx hb dX5_next_198 (by decide) (fun c1 => ?_) (fun c1 => ?_)
        · have hf := hft c1
          refine lv_aload_n hx hb dX5_next_298 rfl (lv_at hl 0 rfl) ?_
          refine lv_iload_n hx hb dX5_next_299 rfl (lv_at hl 2 rfl) ?_
          obtain ⟨hft, hff⟩ := hf
          refine lv_if_eq (tgt := 320) hx hb dX5_next_300 (by decide) (fun c1 => ?_) (fun c1 => ?_)
          · have hf := hft c1
            refine lv_iconst (v := 4) hx hb dX5_next_320 rfl ?_
            refine lv_goto (tgt := 333) hx hb dX5_next_321 (by decide) ?_
            refine hm_put11 C M q2078 dX5_next_333 (fun H locs M => ?_)
            exact hret _ _ _ _ _ dX5_next_336 M hf
          · have hf := hff c1
            refine lv_aload_n hx hb dX5_next_303 rfl (lv_at hl 0 rfl) ?_
            refine hm_get C M 13 (by decide) q2080 (v := .int (hm_gI σ_195 13)) rfl dX5_next_304 ?_
            refine lv_iload_n hx hb dX5_next_307 rfl (lv_at hl 1 rfl) ?_
            obtain ⟨hft, hff⟩ := hf
            refine lv_if_eq (tgt := 316) hx hb dX5_next_308 (by decide) (fun c1 => ?_) (fun c1 => ?_)
            · have hf := hft c1
              refine lv_iconst (v := 3) hx hb dX5_next_316 rfl ?_
              exact B317 v2_181 (hm_gI σ_195 13) 3 σ_195 _ _ _ M (lv_sub hl [0, 1] rfl) hf
            · have hf := hff c1
              refine lv_bipush (v := 7) hx hb dX5_next_311 rfl ?_
              refine lv_goto (tgt := 317) hx hb dX5_next_313 (by decide) ?_
              exact B317 v2_181 (hm_gI σ_195 13) 7 σ_195 _ _ _ M (lv_sub hl [0, 1] rfl) hf
        · have hf := hff c1
          exact B201 v2_181 v3_181 σ_195 _ _ _ M (lv_sub hl [0, 1, 2] rfl) hf
  have B80 : ∀  (σ80 : hm_S) (H : Heap) (locs : List Loc) (ls : Array Slot), hm_M D dA o b s.heap σ80 H locs → lv_has ls 4 [(0, .ref o)] → hw_next_b80   σ80 Q → W p l e (hb_R 1 20) s m args below meth c H locs 0 0 QQ (F0 m 80 ls []) := by
    intro  σ80 H locs ls M hl hf
    refine lv_aload_n hx hb dX5_next_80 rfl (lv_at hl 0 rfl) ?_
    refine hm_ci C M hl.1 (As := []) (rest := []) (hk_peek l D dA o b hB  σ80 hf) (n := 0) q2238 q2240 qs51 q140 q2241 (by decide +kernel) rfl ⟨Nat.le_of_ble_eq_true rfl, Nat.le_of_ble_eq_true rfl⟩ rfl (Nat.le_of_ble_eq_true rfl) dX5_next_81 (fun r_81 σ_81 H locs hf M => ?_)
    refine lv_istore_n (lv' := [(1, .int r_81), (0, .ref o)]) hx hb dX5_next_84 rfl hl (by decide) rfl (fun ls hl => ?_)
    refine lv_iload_n hx hb dX5_next_85 rfl (lv_at hl 0 rfl) ?_
    obtain ⟨hft, hff⟩ := hf
    refine lv_if_ge (tgt := 95) hx hb dX5_next_86 (by decide) (fun c1 => ?_) (fun c1 => ?_)
    · have hf := hft c1
      refine lv_iload_n hx hb dX5_next_95 rfl (lv_at hl 0 rfl) ?_
      refine hm_csi C M hl.1 (As := [.int r_81]) (rest := []) (hk_isSmall l D dA o b hB r_81 σ_81 hf) (n := 1) q2242 q2243 q140 q2244 (by decide +kernel) rfl ⟨Nat.le_of_ble_eq_true rfl, Nat.le_of_ble_eq_true rfl⟩ rfl (Nat.le_of_ble_eq_true rfl) dX5_next_96 (fun r_96 σ_96 H locs hf M => ?_)
      obtain ⟨hft, hff⟩ := hf
      refine lv_if_ne (tgt := 164) hx hb dX5_next_99 (by decide) (fun c1 => ?_) (fun c1 => ?_)
      · have hf := hft c1
        refine lv_iload_n hx hb dX5_next_164 rfl (lv_at hl 0 rfl) ?_
        refine hm_csi C M hl.1 (As := [.int r_81]) (rest := []) (hk_isSmall l D dA o b hB r_81 σ_96 hf) (n := 1) q2242 q2243 q140 q2244 (by decide +kernel) rfl ⟨Nat.le_of_ble_eq_true rfl, Nat.le_of_ble_eq_true rfl⟩ rfl (Nat.le_of_ble_eq_true rfl) dX5_next_165 (fun r_165 σ_165 H locs hf M => ?_)
        refine lv_istore_n (lv' := [(2, .int r_165), (1, .int r_81), (0, .ref o)]) hx hb dX5_next_168 rfl hl (by decide) rfl (fun ls hl => ?_)
        refine lv_iconst (v := 1) hx hb dX5_next_169 rfl ?_
        refine lv_istore_n (lv' := [(3, .int 1), (2, .int r_165), (1, .int r_81), (0, .ref o)]) hx hb dX5_next_170 rfl hl (by decide) rfl (fun ls hl => ?_)
        refine lv_aload_n hx hb dX5_next_171 rfl (lv_at hl 3 rfl) ?_
        refine lv_lconst (v := 0) hx hb dX5_next_172 rfl ?_
        refine hm_put17 C M q2084 dX5_next_173 (fun H locs M => ?_)
        refine lv_aload_n hx hb dX5_next_176 rfl (lv_at hl 3 rfl) ?_
        refine lv_iconst (v := 0) hx hb dX5_next_177 rfl ?_
        refine hm_put14 C M q2081 dX5_next_178 (fun H locs M => ?_)
        obtain ⟨nn, hf⟩ := hf
        exact B181 nn r_165 1 (hm_sI (hm_sW σ_165 0) 14 0) _ _ _ M (lv_sub hl [3, 1, 0] rfl) hf
      · have hf := hff c1
        refine lv_iload_n hx hb dX5_next_102 rfl (lv_at hl 0 rfl) ?_
        refine hm_csi C M hl.1 (As := [.int r_81]) (rest := []) (hk_isDigit l D dA o b hB r_81 σ_96 hf) (n := 1) q2245 q2246 q140 q2247 (by decide +kernel) rfl ⟨Nat.le_of_ble_eq_true rfl, Nat.le_of_ble_eq_true rfl⟩ rfl (Nat.le_of_ble_eq_true rfl) dX5_next_103 (fun r_103 σ_103 H locs hf M => ?_)
        obtain ⟨hft, hff⟩ := hf
        refine lv_if_ne (tgt := 164) hx hb dX5_next_106 (by decide) (fun c1 => ?_) (fun c1 => ?_)
        · have hf := hft c1
          refine lv_iload_n hx hb dX5_next_164 rfl (lv_at hl 0 rfl) ?_
          refine hm_csi C M hl.1 (As := [.int r_81]) (rest := []) (hk_isSmall l D dA o b hB r_81 σ_103 hf) (n := 1) q2242 q2243 q140 q2244 (by decide +kernel) rfl ⟨Nat.le_of_ble_eq_true rfl, Nat.le_of_ble_eq_true rfl⟩ rfl (Nat.le_of_ble_eq_true rfl) dX5_next_165 (fun r_165 σ_165 H locs hf M => ?_)
          refine lv_istore_n (lv' := [(2, .int r_165), (1, .int r_81), (0, .ref o)]) hx hb dX5_next_168 rfl hl (by decide) rfl (fun ls hl => ?_)
          refine lv_iconst (v := 1) hx hb dX5_next_169 rfl ?_
          refine lv_istore_n (lv' := [(3, .int 1), (2, .int r_165), (1, .int r_81), (0, .ref o)]) hx hb dX5_next_170 rfl hl (by decide) rfl (fun ls hl => ?_)
          refine lv_aload_n hx hb dX5_next_171 rfl (lv_at hl 3 rfl) ?_
          refine lv_lconst (v := 0) hx hb dX5_next_172 rfl ?_
          refine hm_put17 C M q2084 dX5_next_173 (fun H locs M => ?_)
          refine lv_aload_n hx hb dX5_next_176 rfl (lv_at hl 3 rfl) ?_
          refine lv_iconst (v := 0) hx hb dX5_next_177 rfl ?_
          refine hm_put14 C M q2081 dX5_next_178 (fun H locs M => ?_)
          obtain ⟨nn, hf⟩ := hf
          exact B181 nn r_165 1 (hm_sI (hm_sW σ_165 0) 14 0) _ _ _ M (lv_sub hl [3, 1, 0] rfl) hf
        · have hf := hff c1
          refine lv_aload_n hx hb dX5_next_109 rfl (lv_at hl 1 rfl) ?_
          refine lv_iload_n hx hb dX5_next_110 rfl (lv_at hl 0 rfl) ?_
          refine lv_bipush (v := 59) hx hb dX5_next_111 rfl ?_
          obtain ⟨hft, hff⟩ := hf
          refine lv_icmp_eq (tgt := 140) hx hb dX5_next_113 (by decide) (fun c1 => ?_) (fun c1 => ?_)
          · have hf := hft c1
            refine lv_iconst (v := 3) hx hb dX5_next_140 rfl ?_
            refine lv_goto (tgt := 145) hx hb dX5_next_141 (by decide) ?_
            refine hm_put11 C M q2078 dX5_next_145 (fun H locs M => ?_)
            refine lv_aload_n hx hb dX5_next_148 rfl (lv_at hl 1 rfl) ?_
            refine lv_iload_n hx hb dX5_next_149 rfl (lv_at hl 0 rfl) ?_
            refine hm_put14 C M q2081 dX5_next_150 (fun H locs M => ?_)
            refine lv_aload_n hx hb dX5_next_153 rfl (lv_at hl 1 rfl) ?_
            refine lv_dup hx hb dX5_next_154 rfl ?_
            refine hm_get C M 4 (by decide) q2071 (v := .int (hm_gI (hm_sI (hm_sI σ_103 11 3) 14 r_81) 4)) rfl dX5_next_155 ?_
            refine lv_iconst (v := 1) hx hb dX5_next_158 rfl ?_
            refine lv_iadd hx hb dX5_next_159 ?_
            refine hm_put4 C M q2071 dX5_next_160 (fun H locs M => ?_)
            exact hret _ _ _ _ _ dX5_next_163 M hf
          · have hf := hff c1
            refine lv_iload_n hx hb dX5_next_116 rfl (lv_at hl 0 rfl) ?_
            refine lv_bipush (v := 40) hx hb dX5_next_117 rfl ?_
            obtain ⟨hft, hff⟩ := hf
            refine lv_icmp_eq (tgt := 140) hx hb dX5_next_119 (by decide) (fun c1 => ?_) (fun c1 => ?_)
            · have hf := hft c1
              refine lv_iconst (v := 3) hx hb dX5_next_140 rfl ?_
              refine lv_goto (tgt := 145) hx hb dX5_next_141 (by decide) ?_
              refine hm_put11 C M q2078 dX5_next_145 (fun H locs M => ?_)
              refine lv_aload_n hx hb dX5_next_148 rfl (lv_at hl 1 rfl) ?_
              refine lv_iload_n hx hb dX5_next_149 rfl (lv_at hl 0 rfl) ?_
              refine hm_put14 C M q2081 dX5_next_150 (fun H locs M => ?_)
              refine lv_aload_n hx hb dX5_next_153 rfl (lv_at hl 1 rfl) ?_
              refine lv_dup hx hb dX5_next_154 rfl ?_
              refine hm_get C M 4 (by decide) q2071 (v := .int (hm_gI (hm_sI (hm_sI σ_103 11 3) 14 r_81) 4)) rfl dX5_next_155 ?_
              refine lv_iconst (v := 1) hx hb dX5_next_158 rfl ?_
              refine lv_iadd hx hb dX5_next_159 ?_
              refine hm_put4 C M q2071 dX5_next_160 (fun H locs M => ?_)
              exact hret _ _ _ _ _ dX5_next_163 M hf
            · have hf := hff c1
              refine lv_iload_n hx hb dX5_next_122 rfl (lv_at hl 0 rfl) ?_
              refine lv_bipush (v := 41) hx hb dX5_next_123 rfl ?_
              obtain ⟨hft, hff⟩ := hf
              refine lv_icmp_eq (tgt := 140) hx hb dX5_next_125 (by decide) (fun c1 => ?_) (fun c1 => ?_)
              · have hf := hft c1
                refine lv_iconst (v := 3) hx hb dX5_next_140 rfl ?_
                refine lv_goto (tgt := 145) hx hb dX5_next_141 (by decide) ?_
                refine hm_put11 C M q2078 dX5_next_145 (fun H locs M => ?_)
                refine lv_aload_n hx hb dX5_next_148 rfl (lv_at hl 1 rfl) ?_
                refine lv_iload_n hx hb dX5_next_149 rfl (lv_at hl 0 rfl) ?_
                refine hm_put14 C M q2081 dX5_next_150 (fun H locs M => ?_)
                refine lv_aload_n hx hb dX5_next_153 rfl (lv_at hl 1 rfl) ?_
                refine lv_dup hx hb dX5_next_154 rfl ?_
                refine hm_get C M 4 (by decide) q2071 (v := .int (hm_gI (hm_sI (hm_sI σ_103 11 3) 14 r_81) 4)) rfl dX5_next_155 ?_
                refine lv_iconst (v := 1) hx hb dX5_next_158 rfl ?_
                refine lv_iadd hx hb dX5_next_159 ?_
                refine hm_put4 C M q2071 dX5_next_160 (fun H locs M => ?_)
                exact hret _ _ _ _ _ dX5_next_163 M hf
              · have hf := hff c1
                refine lv_iload_n hx hb dX5_next_128 rfl (lv_at hl 0 rfl) ?_
                refine lv_bipush (v := 60) hx hb dX5_next_129 rfl ?_
                obtain ⟨hft, hff⟩ := hf
                refine lv_icmp_lt (tgt := 144) hx hb dX5_next_131 (by decide) (fun c1 => ?_) (fun c1 => ?_)
                · have hf := hft c1
                  refine lv_iconst (v := 4) hx hb dX5_next_144 rfl ?_
                  refine hm_put11 C M q2078 dX5_next_145 (fun H locs M => ?_)
                  refine lv_aload_n hx hb dX5_next_148 rfl (lv_at hl 1 rfl) ?_
                  refine lv_iload_n hx hb dX5_next_149 rfl (lv_at hl 0 rfl) ?_
                  refine hm_put14 C M q2081 dX5_next_150 (fun H locs M => ?_)
                  refine lv_aload_n hx hb dX5_next_153 rfl (lv_at hl 1 rfl) ?_
                  refine lv_dup hx hb dX5_next_154 rfl ?_
                  refine hm_get C M 4 (by decide) q2071 (v := .int (hm_gI (hm_sI (hm_sI σ_103 11 4) 14 r_81) 4)) rfl dX5_next_155 ?_
                  refine lv_iconst (v := 1) hx hb dX5_next_158 rfl ?_
                  refine lv_iadd hx hb dX5_next_159 ?_
                  refine hm_put4 C M q2071 dX5_next_160 (fun H locs M => ?_)
                  exact hret _ _ _ _ _ dX5_next_163 M hf
                · have hf := hff c1
                  refine lv_iload_n hx hb dX5_next_134 rfl (lv_at hl 0 rfl) ?_
                  refine lv_bipush (v := 62) hx hb dX5_next_135 rfl ?_
                  obtain ⟨hft, hff⟩ := hf
                  refine lv_icmp_gt (tgt := 144) hx hb dX5_next_137 (by decide) (fun c1 => ?_) (fun c1 => ?_)
                  · have hf := hft c1
                    refine lv_iconst (v := 4) hx hb dX5_next_144 rfl ?_
                    refine hm_put11 C M q2078 dX5_next_145 (fun H locs M => ?_)
                    refine lv_aload_n hx hb dX5_next_148 rfl (lv_at hl 1 rfl) ?_
                    refine lv_iload_n hx hb dX5_next_149 rfl (lv_at hl 0 rfl) ?_
                    refine hm_put14 C M q2081 dX5_next_150 (fun H locs M => ?_)
                    refine lv_aload_n hx hb dX5_next_153 rfl (lv_at hl 1 rfl) ?_
                    refine lv_dup hx hb dX5_next_154 rfl ?_
                    refine hm_get C M 4 (by decide) q2071 (v := .int (hm_gI (hm_sI (hm_sI σ_103 11 4) 14 r_81) 4)) rfl dX5_next_155 ?_
                    refine lv_iconst (v := 1) hx hb dX5_next_158 rfl ?_
                    refine lv_iadd hx hb dX5_next_159 ?_
                    refine hm_put4 C M q2071 dX5_next_160 (fun H locs M => ?_)
                    exact hret _ _ _ _ _ dX5_next_163 M hf
                  · have hf := hff c1
                    refine lv_iconst (v := 3) hx hb dX5_next_140 rfl ?_
                    refine lv_goto (tgt := 145) hx hb dX5_next_141 (by decide) ?_
                    refine hm_put11 C M q2078 dX5_next_145 (fun H locs M => ?_)
                    refine lv_aload_n hx hb dX5_next_148 rfl (lv_at hl 1 rfl) ?_
                    refine lv_iload_n hx hb dX5_next_149 rfl (lv_at hl 0 rfl) ?_
                    refine hm_put14 C M q2081 dX5_next_150 (fun H locs M => ?_)
                    refine lv_aload_n hx hb dX5_next_153 rfl (lv_at hl 1 rfl) ?_
                    refine lv_dup hx hb dX5_next_154 rfl ?_
                    refine hm_get C M 4 (by decide) q2071 (v := .int (hm_gI (hm_sI (hm_sI σ_103 11 3) 14 r_81) 4)) rfl dX5_next_155 ?_
                    refine lv_iconst (v := 1) hx hb dX5_next_158 rfl ?_
                    refine lv_iadd hx hb dX5_next_159 ?_
                    refine hm_put4 C M q2071 dX5_next_160 (fun H locs M => ?_)
                    exact hret _ _ _ _ _ dX5_next_163 M hf
    · have hf := hff c1
      refine lv_aload_n hx hb dX5_next_89 rfl (lv_at hl 1 rfl) ?_
      refine lv_iconst (v := 0) hx hb dX5_next_90 rfl ?_
      refine hm_put11 C M q2078 dX5_next_91 (fun H locs M => ?_)
      exact hret _ _ _ _ _ dX5_next_94 M hf
  have B0 : ∀ (n0 : Nat)  (σ0 : hm_S) (H : Heap) (locs : List Loc) (ls : Array Slot), hm_M D dA o b s.heap σ0 H locs → lv_has ls 4 [(0, .ref o)] → hw_next_b0  n0  σ0 Q → W p l e (hb_R 1 20) s m args below meth c H locs 0 0 QQ (F0 m 0 ls []) := by
    intro n0
    induction n0 with
    | zero => intro  σ0 H locs ls M hl hf; exact hf.elim
    | succ n0 ih0 =>
      intro  σ0 H locs ls M hl hf
      refine lv_aload_n hx hb dX5_next_0 rfl (lv_at hl 0 rfl) ?_
      refine hm_ci C M hl.1 (As := []) (rest := []) (hk_peek l D dA o b hB  σ0 hf) (n := 0) q2238 q2240 qs51 q140 q2241 (by decide +kernel) rfl ⟨Nat.le_of_ble_eq_true rfl, Nat.le_of_ble_eq_true rfl⟩ rfl (Nat.le_of_ble_eq_true rfl) dX5_next_1 (fun r_1 σ_1 H locs hf M => ?_)
      refine lv_bipush (v := 32) hx hb dX5_next_4 rfl ?_
      obtain ⟨hft, hff⟩ := hf
      refine lv_icmp_eq (tgt := 18) hx hb dX5_next_6 (by decide) (fun c1 => ?_) (fun c1 => ?_)
      · have hf := hft c1
        refine lv_aload_n hx hb dX5_next_18 rfl (lv_at hl 0 rfl) ?_
        refine lv_dup hx hb dX5_next_19 rfl ?_
        refine hm_get C M 4 (by decide) q2071 (v := .int (hm_gI σ_1 4)) rfl dX5_next_20 ?_
        refine lv_iconst (v := 1) hx hb dX5_next_23 rfl ?_
        refine lv_iadd hx hb dX5_next_24 ?_
        refine hm_put4 C M q2071 dX5_next_25 (fun H locs M => ?_)
        refine lv_goto (tgt := 0) hx hb dX5_next_28 (by decide) ?_
        exact ih0  (hm_sI σ_1 4 ((hm_gI σ_1 4) + 1)) _ _ _ M (lv_sub hl [0] rfl) hf
      · have hf := hff c1
        refine lv_aload_n hx hb dX5_next_9 rfl (lv_at hl 0 rfl) ?_
        refine hm_ci C M hl.1 (As := []) (rest := []) (hk_peek l D dA o b hB  σ_1 hf) (n := 0) q2238 q2240 qs51 q140 q2241 (by decide +kernel) rfl ⟨Nat.le_of_ble_eq_true rfl, Nat.le_of_ble_eq_true rfl⟩ rfl (Nat.le_of_ble_eq_true rfl) dX5_next_10 (fun r_10 σ_10 H locs hf M => ?_)
        refine lv_bipush (v := 10) hx hb dX5_next_13 rfl ?_
        obtain ⟨hft, hff⟩ := hf
        refine lv_icmp_ne (tgt := 31) hx hb dX5_next_15 (by decide) (fun c1 => ?_) (fun c1 => ?_)
        · have hf := hft c1
          refine lv_aload_n hx hb dX5_next_31 rfl (lv_at hl 0 rfl) ?_
          refine lv_aload_n hx hb dX5_next_32 rfl (lv_at hl 0 rfl) ?_
          refine hm_get C M 4 (by decide) q2071 (v := .int (hm_gI σ_10 4)) rfl dX5_next_33 ?_
          refine hm_put12 C M q2079 dX5_next_36 (fun H locs M => ?_)
          refine lv_aload_n hx hb dX5_next_39 rfl (lv_at hl 0 rfl) ?_
          refine lv_iconst (v := 0) hx hb dX5_next_40 rfl ?_
          refine hm_put13 C M q2080 dX5_next_41 (fun H locs M => ?_)
          refine lv_aload_n hx hb dX5_next_44 rfl (lv_at hl 0 rfl) ?_
          refine hm_get C M 3 (by decide) q2070 (v := .int (hm_gI (hm_sI (hm_sI σ_10 12 (hm_gI σ_10 4)) 13 0) 3)) rfl dX5_next_45 ?_
          refine lv_aload_n hx hb dX5_next_48 rfl (lv_at hl 0 rfl) ?_
          refine hm_get C M 5 (by decide) q2072 (v := .int (hm_gI (hm_sI (hm_sI σ_10 12 (hm_gI σ_10 4)) 13 0) 5)) rfl dX5_next_49 ?_
          obtain ⟨hft, hff⟩ := hf
          refine lv_icmp_le (tgt := 80) hx hb dX5_next_52 (by decide) (fun c1 => ?_) (fun c1 => ?_)
          · have hf := hft c1
            exact B80  (hm_sI (hm_sI σ_10 12 (hm_gI σ_10 4)) 13 0) _ _ _ M (lv_sub hl [0] rfl) hf
          · have hf := hff c1
            refine lv_aload_n hx hb dX5_next_55 rfl (lv_at hl 0 rfl) ?_
            refine hm_get C M 4 (by decide) q2071 (v := .int (hm_gI (hm_sI (hm_sI σ_10 12 (hm_gI σ_10 4)) 13 0) 4)) rfl dX5_next_56 ?_
            refine lv_aload_n hx hb dX5_next_59 rfl (lv_at hl 0 rfl) ?_
            refine hm_get C M 5 (by decide) q2072 (v := .int (hm_gI (hm_sI (hm_sI σ_10 12 (hm_gI σ_10 4)) 13 0) 5)) rfl dX5_next_60 ?_
            obtain ⟨hft, hff⟩ := hf
            refine lv_icmp_lt (tgt := 80) hx hb dX5_next_63 (by decide) (fun c1 => ?_) (fun c1 => ?_)
            · have hf := hft c1
              exact B80  (hm_sI (hm_sI σ_10 12 (hm_gI σ_10 4)) 13 0) _ _ _ M (lv_sub hl [0] rfl) hf
            · have hf := hff c1
              refine lv_aload_n hx hb dX5_next_66 rfl (lv_at hl 0 rfl) ?_
              refine lv_aload_n hx hb dX5_next_67 rfl (lv_at hl 0 rfl) ?_
              refine hm_get C M 5 (by decide) q2072 (v := .int (hm_gI (hm_sI (hm_sI σ_10 12 (hm_gI σ_10 4)) 13 0) 5)) rfl dX5_next_68 ?_
              refine hm_put12 C M q2079 dX5_next_71 (fun H locs M => ?_)
              refine lv_aload_n hx hb dX5_next_74 rfl (lv_at hl 0 rfl) ?_
              refine lv_iconst (v := 4) hx hb dX5_next_75 rfl ?_
              refine hm_put11 C M q2078 dX5_next_76 (fun H locs M => ?_)
              exact hret _ _ _ _ _ dX5_next_79 M hf
        · have hf := hff c1
          refine lv_aload_n hx hb dX5_next_18 rfl (lv_at hl 0 rfl) ?_
          refine lv_dup hx hb dX5_next_19 rfl ?_
          refine hm_get C M 4 (by decide) q2071 (v := .int (hm_gI σ_10 4)) rfl dX5_next_20 ?_
          refine lv_iconst (v := 1) hx hb dX5_next_23 rfl ?_
          refine lv_iadd hx hb dX5_next_24 ?_
          refine hm_put4 C M q2071 dX5_next_25 (fun H locs M => ?_)
          refine lv_goto (tgt := 0) hx hb dX5_next_28 (by decide) ?_
          exact ih0  (hm_sI σ_10 4 ((hm_gI σ_10 4) + 1)) _ _ _ M (lv_sub hl [0] rfl) hf
  obtain ⟨nn, hf⟩ := hf
  exact B0 nn  σ _ _ _ M (lv_sub hl [0] rfl) hf
def hw_bad (a1 : Int32) (σ : hm_S) (Q : Int32 → hm_S → Prop) : Prop := Q 0 (hm_sI (hm_sI σ 15 a1) 16 (hm_gI (hm_sI σ 15 a1) 12))
set_option maxHeartbeats 4000000 in
set_option maxRecDepth 100000 in
theorem hk_bad (l : Launch) (D : va_G) (dA : Nat → ClassId) (o : Nat) (b : Nat → Nat) (hB : hm_D dA o b) (a1 : Int32) (σ : hm_S) {Q : Int32 → hm_S → Prop} (hf : hw_bad a1 σ Q) : Met l yX5_bad (ws_ yX5_bad cX5_bad 2 (some .boolean)) (hb_R 0 0) (va_Pc [.ref o, .int a1] (hm_U D dA o b σ)) (va_Qi Q (hm_U D dA o b) (hm_A o b)) 0 0 (hm_A o b) := by
  refine hm_Mz hB (LV := [(0, .ref o), (1, .int a1)]) (by decide) rfl (Nat.le_of_ble_eq_true rfl) (fun p e s m args below meth c ls QQ C M hl hret => ?_)
  have hx := C.1.1
  have hb := C.1.2.1
  refine lv_aload_n hx hb dX5_bad_0 rfl (lv_at hl 0 rfl) ?_
  refine lv_iload_n hx hb dX5_bad_1 rfl (lv_at hl 1 rfl) ?_
  refine hm_put15 C M q2082 dX5_bad_2 (fun H locs M => ?_)
  refine lv_aload_n hx hb dX5_bad_5 rfl (lv_at hl 0 rfl) ?_
  refine lv_aload_n hx hb dX5_bad_6 rfl (lv_at hl 0 rfl) ?_
  refine hm_get C M 12 (by decide) q2079 (v := .int (hm_gI (hm_sI σ 15 a1) 12)) rfl dX5_bad_7 ?_
  refine hm_put16 C M q2083 dX5_bad_10 (fun H locs M => ?_)
  refine lv_iconst (v := 0) hx hb dX5_bad_13 rfl ?_
  exact hret _ _ _ _ _ _ dX5_bad_14 M hb_B0 hf
def hw_isWord (a1 : Int64) (σ : hm_S) (Q : Int32 → hm_S → Prop) : Prop := (¬ (hm_gI σ 11) = 1 → Q 0 σ) ∧ ((hm_gI σ 11) = 1 → (¬ (lg_cmp (hm_gW σ) a1) = 0 → Q 0 σ) ∧ ((lg_cmp (hm_gW σ) a1) = 0 → Q 1 σ))
set_option maxHeartbeats 4000000 in
set_option maxRecDepth 100000 in
theorem hk_isWord (l : Launch) (D : va_G) (dA : Nat → ClassId) (o : Nat) (b : Nat → Nat) (hB : hm_D dA o b) (a1 : Int64) (σ : hm_S) {Q : Int32 → hm_S → Prop} (hf : hw_isWord a1 σ Q) : Met l yX5_isWord (ws_ yX5_isWord cX5_isWord 3 (some .boolean)) (hb_R 0 0) (va_Pc [.ref o, .long a1] (hm_U D dA o b σ)) (va_Qi Q (hm_U D dA o b) (hm_A o b)) 0 0 (hm_A o b) := by
  refine hm_Mz hB (LV := [(0, .ref o), (1, .long a1)]) (by decide) rfl (Nat.le_of_ble_eq_true rfl) (fun p e s m args below meth c ls QQ C M hl hret => ?_)
  have hx := C.1.1
  have hb := C.1.2.1
  refine lv_aload_n hx hb dX5_isWord_0 rfl (lv_at hl 0 rfl) ?_
  refine hm_get C M 11 (by decide) q2078 (v := .int (hm_gI σ 11)) rfl dX5_isWord_1 ?_
  refine lv_iconst (v := 1) hx hb dX5_isWord_4 rfl ?_
  obtain ⟨hft, hff⟩ := hf
  refine lv_icmp_ne (tgt := 21) hx hb dX5_isWord_5 (by decide) (fun c1 => ?_) (fun c1 => ?_)
  · have hf := hft c1
    refine lv_iconst (v := 0) hx hb dX5_isWord_21 rfl ?_
    exact hret _ _ _ _ _ _ dX5_isWord_22 M hb_B0 hf
  · have hf := hff c1
    refine lv_aload_n hx hb dX5_isWord_8 rfl (lv_at hl 0 rfl) ?_
    refine hm_get C M 17 (by decide) q2084 (v := .long (hm_gW σ)) rfl dX5_isWord_9 ?_
    refine lv_lload_n hx hb dX5_isWord_12 rfl (lv_at hl 1 rfl) ?_
    refine W.lcmp hx hb dX5_isWord_13 ?_
    obtain ⟨hft, hff⟩ := hf
    refine lv_if_ne (tgt := 21) hx hb dX5_isWord_14 (by decide) (fun c1 => ?_) (fun c1 => ?_)
    · have hf := hft c1
      refine lv_iconst (v := 0) hx hb dX5_isWord_21 rfl ?_
      exact hret _ _ _ _ _ _ dX5_isWord_22 M hb_B0 hf
    · have hf := hff c1
      refine lv_iconst (v := 1) hx hb dX5_isWord_17 rfl ?_
      refine lv_goto (tgt := 22) hx hb dX5_isWord_18 (by decide) ?_
      exact hret _ _ _ _ _ _ dX5_isWord_22 M hb_B1 hf
def hw_isIn (a0 : Int32) (a1 : Int32) (a2 : Int32) (σ : hm_S) (Q : Int32 → hm_S → Prop) : Prop := (a0 < a1 → Q 0 σ) ∧ (¬ a0 < a1 → (a2 < a0 → Q 0 σ) ∧ (¬ a2 < a0 → Q 1 σ))
set_option maxHeartbeats 4000000 in
set_option maxRecDepth 100000 in
theorem hk_isIn (l : Launch) (D : va_G) (dA : Nat → ClassId) (o : Nat) (b : Nat → Nat) (hB : hm_D dA o b) (a0 : Int32) (a1 : Int32) (a2 : Int32) (σ : hm_S) {Q : Int32 → hm_S → Prop} (hf : hw_isIn a0 a1 a2 σ Q) : Met l yX5_isIn (ws_ yX5_isIn cX5_isIn 3 (some .boolean)) (hb_R 0 0) (va_Pc [.int a0, .int a1, .int a2] (hm_U D dA o b σ)) (va_Qi Q (hm_U D dA o b) (hm_A o b)) 0 0 (hm_A o b) := by
  refine hm_Mz hB (LV := [(0, .int a0), (1, .int a1), (2, .int a2)]) (by decide) rfl (Nat.le_of_ble_eq_true rfl) (fun p e s m args below meth c ls QQ C M hl hret => ?_)
  have hx := C.1.1
  have hb := C.1.2.1
  refine lv_iload_n hx hb dX5_isIn_0 rfl (lv_at hl 0 rfl) ?_
  refine lv_iload_n hx hb dX5_isIn_1 rfl (lv_at hl 1 rfl) ?_
  obtain ⟨hft, hff⟩ := hf
  refine lv_icmp_lt (tgt := 14) hx hb dX5_isIn_2 (by decide) (fun c1 => ?_) (fun c1 => ?_)
  · have hf := hft c1
    refine lv_iconst (v := 0) hx hb dX5_isIn_14 rfl ?_
    exact hret _ _ _ _ _ _ dX5_isIn_15 M hb_B0 hf
  · have hf := hff c1
    refine lv_iload_n hx hb dX5_isIn_5 rfl (lv_at hl 0 rfl) ?_
    refine lv_iload_n hx hb dX5_isIn_6 rfl (lv_at hl 2 rfl) ?_
    obtain ⟨hft, hff⟩ := hf
    refine lv_icmp_gt (tgt := 14) hx hb dX5_isIn_7 (by decide) (fun c1 => ?_) (fun c1 => ?_)
    · have hf := hft c1
      refine lv_iconst (v := 0) hx hb dX5_isIn_14 rfl ?_
      exact hret _ _ _ _ _ _ dX5_isIn_15 M hb_B0 hf
    · have hf := hff c1
      refine lv_iconst (v := 1) hx hb dX5_isIn_10 rfl ?_
      refine lv_goto (tgt := 15) hx hb dX5_isIn_11 (by decide) ?_
      exact hret _ _ _ _ _ _ dX5_isIn_15 M hb_B1 hf
def hw_takes (a1 : Int32) (a2 : Int32) (σ : hm_S) (Q : Int32 → hm_S → Prop) : Prop := ((hm_gI σ 11) = 2 → hw_isIn (hm_gI σ 14) a1 a2 σ (fun r_20 σ_20 => ((¬ r_20 = 0 → hw_next  (hm_sI σ_20 18 (hm_gI σ_20 14)) (fun σ_41 => (Q 1 σ_41))) ∧ (r_20 = 0 → hw_bad 2 σ_20 (fun r_28 σ_28 => (hb_B r_28 ∧ Q r_28 σ_28)))))) ∧ (¬ (hm_gI σ 11) = 2 → hw_bad 1 σ (fun r_10 σ_10 => (hb_B r_10 ∧ Q r_10 σ_10)))
set_option maxHeartbeats 4000000 in
set_option maxRecDepth 100000 in
theorem hk_takes (l : Launch) (D : va_G) (dA : Nat → ClassId) (o : Nat) (b : Nat → Nat) (hB : hm_D dA o b) (a1 : Int32) (a2 : Int32) (σ : hm_S) {Q : Int32 → hm_S → Prop} (hf : hw_takes a1 a2 σ Q) : Met l yX5_takes (ws_ yX5_takes cX5_takes 3 (some .boolean)) (hb_R 2 43) (va_Pc [.ref o, .int a1, .int a2] (hm_U D dA o b σ)) (va_Qi Q (hm_U D dA o b) (hm_A o b)) 0 0 (hm_A o b) := by
  refine hm_Mz hB (LV := [(0, .ref o), (1, .int a1), (2, .int a2)]) (by decide) rfl (Nat.le_of_ble_eq_true rfl) (fun p e s m args below meth c ls QQ C M hl hret => ?_)
  have hx := C.1.1
  have hb := C.1.2.1
  refine lv_aload_n hx hb dX5_takes_0 rfl (lv_at hl 0 rfl) ?_
  refine hm_get C M 11 (by decide) q2078 (v := .int (hm_gI σ 11)) rfl dX5_takes_1 ?_
  refine lv_iconst (v := 2) hx hb dX5_takes_4 rfl ?_
  obtain ⟨hft, hff⟩ := hf
  refine lv_icmp_eq (tgt := 14) hx hb dX5_takes_5 (by decide) (fun c1 => ?_) (fun c1 => ?_)
  · have hf := hft c1
    refine lv_aload_n hx hb dX5_takes_14 rfl (lv_at hl 0 rfl) ?_
    refine hm_get C M 14 (by decide) q2081 (v := .int (hm_gI σ 14)) rfl dX5_takes_15 ?_
    refine lv_iload_n hx hb dX5_takes_18 rfl (lv_at hl 1 rfl) ?_
    refine lv_iload_n hx hb dX5_takes_19 rfl (lv_at hl 2 rfl) ?_
    refine hm_csi C M hl.1 (As := [.int (hm_gI σ 14), .int a1, .int a2]) (rest := []) (hk_isIn l D dA o b hB (hm_gI σ 14) a1 a2 σ hf) (n := 3) q2280 q2281 q140 q2282 (by decide +kernel) rfl ⟨Nat.le_of_ble_eq_true rfl, Nat.le_of_ble_eq_true rfl⟩ rfl (Nat.le_of_ble_eq_true rfl) dX5_takes_20 (fun r_20 σ_20 H locs hf M => ?_)
    obtain ⟨hft, hff⟩ := hf
    refine lv_if_ne (tgt := 32) hx hb dX5_takes_23 (by decide) (fun c1 => ?_) (fun c1 => ?_)
    · have hf := hft c1
      refine lv_aload_n hx hb dX5_takes_32 rfl (lv_at hl 0 rfl) ?_
      refine lv_aload_n hx hb dX5_takes_33 rfl (lv_at hl 0 rfl) ?_
      refine hm_get C M 14 (by decide) q2081 (v := .int (hm_gI σ_20 14)) rfl dX5_takes_34 ?_
      refine hm_put18 C M q2085 dX5_takes_37 (fun H locs M => ?_)
      refine lv_aload_n hx hb dX5_takes_40 rfl (lv_at hl 0 rfl) ?_
      refine hm_cv C M hl.1 (As := []) (rest := []) (hk_next l D dA o b hB  (hm_sI σ_20 18 (hm_gI σ_20 14)) hf) (n := 0) q2234 q2236 qs50 q140 q2237 (by decide +kernel) rfl ⟨Nat.le_of_ble_eq_true rfl, Nat.le_of_ble_eq_true rfl⟩ rfl (Nat.le_of_ble_eq_true rfl) dX5_takes_41 (fun σ_41 H locs hf M => ?_)
      refine lv_iconst (v := 1) hx hb dX5_takes_44 rfl ?_
      exact hret _ _ _ _ _ _ dX5_takes_45 M hb_B1 hf
    · have hf := hff c1
      refine lv_aload_n hx hb dX5_takes_26 rfl (lv_at hl 0 rfl) ?_
      refine lv_iconst (v := 2) hx hb dX5_takes_27 rfl ?_
      refine hm_ci C M hl.1 (As := [.int 2]) (rest := []) (hk_bad l D dA o b hB 2 σ_20 hf) (n := 1) q2260 q2262 qs55 q140 q2263 (by decide +kernel) rfl ⟨Nat.le_of_ble_eq_true rfl, Nat.le_of_ble_eq_true rfl⟩ rfl (Nat.le_of_ble_eq_true rfl) dX5_takes_28 (fun r_28 σ_28 H locs hf M => ?_)
      exact hret _ _ _ _ _ _ dX5_takes_31 M hf.1 hf.2
  · have hf := hff c1
    refine lv_aload_n hx hb dX5_takes_8 rfl (lv_at hl 0 rfl) ?_
    refine lv_iconst (v := 1) hx hb dX5_takes_9 rfl ?_
    refine hm_ci C M hl.1 (As := [.int 1]) (rest := []) (hk_bad l D dA o b hB 1 σ hf) (n := 1) q2260 q2262 qs55 q140 q2263 (by decide +kernel) rfl ⟨Nat.le_of_ble_eq_true rfl, Nat.le_of_ble_eq_true rfl⟩ rfl (Nat.le_of_ble_eq_true rfl) dX5_takes_10 (fun r_10 σ_10 H locs hf M => ?_)
    exact hret _ _ _ _ _ _ dX5_takes_13 M hf.1 hf.2
def hw_puts (a1 : Int32) (a2 : Int32) (a3 : Int32) (σ : hm_S) (Q : Int32 → hm_S → Prop) : Prop := hw_takes a2 a3 σ (fun r_3 σ_3 => ((¬ r_3 = 0 → vp_in a1 100 ∧ (Q 1 (hm_sA σ_3 7 a1 (hm_gI σ_3 18)))) ∧ (r_3 = 0 → Q 0 σ_3)))
set_option maxHeartbeats 4000000 in
set_option maxRecDepth 100000 in
theorem hk_puts (l : Launch) (D : va_G) (dA : Nat → ClassId) (o : Nat) (b : Nat → Nat) (hB : hm_D dA o b) (a1 : Int32) (a2 : Int32) (a3 : Int32) (σ : hm_S) {Q : Int32 → hm_S → Prop} (hf : hw_puts a1 a2 a3 σ Q) : Met l yX5_puts (ws_ yX5_puts cX5_puts 4 (some .boolean)) (hb_R 3 65) (va_Pc [.ref o, .int a1, .int a2, .int a3] (hm_U D dA o b σ)) (va_Qi Q (hm_U D dA o b) (hm_A o b)) 0 0 (hm_A o b) := by
  refine hm_Mz hB (LV := [(0, .ref o), (1, .int a1), (2, .int a2), (3, .int a3)]) (by decide) rfl (Nat.le_of_ble_eq_true rfl) (fun p e s m args below meth c ls QQ C M hl hret => ?_)
  have hx := C.1.1
  have hb := C.1.2.1
  refine lv_aload_n hx hb dX5_puts_0 rfl (lv_at hl 0 rfl) ?_
  refine lv_iload_n hx hb dX5_puts_1 rfl (lv_at hl 2 rfl) ?_
  refine lv_iload_n hx hb dX5_puts_2 rfl (lv_at hl 3 rfl) ?_
  refine hm_ci C M hl.1 (As := [.int a2, .int a3]) (rest := []) (hk_takes l D dA o b hB a2 a3 σ hf) (n := 2) q2276 q2278 qs59 q140 q2279 (by decide +kernel) rfl ⟨Nat.le_of_ble_eq_true rfl, Nat.le_of_ble_eq_true rfl⟩ rfl (Nat.le_of_ble_eq_true rfl) dX5_puts_3 (fun r_3 σ_3 H locs hf M => ?_)
  obtain ⟨hft, hff⟩ := hf
  refine lv_if_ne (tgt := 11) hx hb dX5_puts_6 (by decide) (fun c1 => ?_) (fun c1 => ?_)
  · have hf := hft c1
    refine lv_aload_n hx hb dX5_puts_11 rfl (lv_at hl 0 rfl) ?_
    refine hm_get C M 7 (by decide) q2074 (v := .ref (b 7)) rfl dX5_puts_12 ?_
    refine lv_iload_n hx hb dX5_puts_15 rfl (lv_at hl 1 rfl) ?_
    refine lv_aload_n hx hb dX5_puts_16 rfl (lv_at hl 0 rfl) ?_
    refine hm_get C M 18 (by decide) q2085 (v := .int (hm_gI σ_3 18)) rfl dX5_puts_17 ?_
    obtain ⟨g1, hf⟩ := hf
    refine hm_ast7 C M g1 dX5_puts_20 (fun H locs M => ?_)
    refine lv_iconst (v := 1) hx hb dX5_puts_21 rfl ?_
    exact hret _ _ _ _ _ _ dX5_puts_22 M hb_B1 hf
  · have hf := hff c1
    refine lv_iconst (v := 0) hx hb dX5_puts_9 rfl ?_
    exact hret _ _ _ _ _ _ dX5_puts_10 M hb_B0 hf
def hw_isName_b16 : Nat → Int32 → Int32 → hm_S → (Int32 → hm_S → Prop) → Prop
  | 0, _, _, _, _ => False
  | n16 + 1, v1_16, v2_16, σ16, Q => (23 ≤ v2_16 → hb_B v1_16 ∧ Q v1_16 σ16) ∧ (¬ 23 ≤ v2_16 → (v1_16 = 0 → hw_isName_b16  n16 0 (v2_16 + 1) σ16 Q) ∧ (¬ v1_16 = 0 → vp_in v2_16 23 ∧ (((lg_cmp (hm_gW σ16) (hm_gL σ16 10 v2_16)) = 0 → hw_isName_b16  n16 0 (v2_16 + 1) σ16 Q) ∧ (¬ (lg_cmp (hm_gW σ16) (hm_gL σ16 10 v2_16)) = 0 → hw_isName_b16  n16 1 (v2_16 + 1) σ16 Q))))
def hw_isName  (σ : hm_S) (Q : Int32 → hm_S → Prop) : Prop := (¬ (hm_gI σ 11) = 1 → ∃ n, hw_isName_b16  n 0 0 σ Q) ∧ ((hm_gI σ 11) = 1 → ∃ n, hw_isName_b16  n 1 0 σ Q)
set_option maxHeartbeats 4000000 in
set_option maxRecDepth 100000 in
theorem hk_isName (l : Launch) (D : va_G) (dA : Nat → ClassId) (o : Nat) (b : Nat → Nat) (hB : hm_D dA o b)  (σ : hm_S) {Q : Int32 → hm_S → Prop} (hf : hw_isName  σ Q) : Met l yX5_isName (ws_ yX5_isName cX5_isName 3 (some .boolean)) (hb_R 0 0) (va_Pc [.ref o] (hm_U D dA o b σ)) (va_Qi Q (hm_U D dA o b) (hm_A o b)) 0 0 (hm_A o b) := by
  refine hm_Mz hB (LV := [(0, .ref o)]) (by decide) rfl (Nat.le_of_ble_eq_true rfl) (fun p e s m args below meth c ls QQ C M hl hret => ?_)
  have hx := C.1.1
  have hb := C.1.2.1
  have B16 : ∀ (n16 : Nat) (v1_16 : Int32) (v2_16 : Int32) (σ16 : hm_S) (H : Heap) (locs : List Loc) (ls : Array Slot), hm_M D dA o b s.heap σ16 H locs → lv_has ls 3 [(0, .ref o), (1, .int v1_16), (2, .int v2_16)] → hw_isName_b16  n16 v1_16 v2_16 σ16 Q → W p l e (hb_R 0 0) s m args below meth c H locs 0 0 QQ (F0 m 16 ls []) := by
    intro n16
    induction n16 with
    | zero => intro v1_16 v2_16 σ16 H locs ls M hl hf; exact hf.elim
    | succ n16 ih16 =>
      intro v1_16 v2_16 σ16 H locs ls M hl hf
      refine lv_iload_n hx hb dX5_isName_16 rfl (lv_at hl 2 rfl) ?_
      refine lv_bipush (v := 23) hx hb dX5_isName_17 rfl ?_
      obtain ⟨hft, hff⟩ := hf
      refine lv_icmp_ge (tgt := 52) hx hb dX5_isName_19 (by decide) (fun c1 => ?_) (fun c1 => ?_)
      · have hf := hft c1
        refine lv_iload_n hx hb dX5_isName_52 rfl (lv_at hl 1 rfl) ?_
        exact hret _ _ _ _ _ _ dX5_isName_53 M hf.1 hf.2
      · have hf := hff c1
        refine lv_iload_n hx hb dX5_isName_22 rfl (lv_at hl 1 rfl) ?_
        obtain ⟨hft, hff⟩ := hf
        refine lv_if_eq (tgt := 44) hx hb dX5_isName_23 (by decide) (fun c1 => ?_) (fun c1 => ?_)
        · have hf := hft c1
          refine lv_iconst (v := 0) hx hb dX5_isName_44 rfl ?_
          refine lv_istore_n (lv' := [(1, .int 0), (0, .ref o), (2, .int v2_16)]) hx hb dX5_isName_45 rfl hl (by decide) rfl (fun ls hl => ?_)
          refine lv_iinc (v := v2_16 + 1) (lv' := [(2, .int (v2_16 + 1)), (1, .int 0), (0, .ref o)]) hx hb dX5_isName_46 hl (k := 2) rfl rfl (by decide) rfl (fun ls hl => ?_)
          refine lv_goto (tgt := 16) hx hb dX5_isName_49 (by decide) ?_
          exact ih16 0 (v2_16 + 1) σ16 _ _ _ M (lv_sub hl [2, 1, 0] rfl) hf
        · have hf := hff c1
          refine lv_aload_n hx hb dX5_isName_26 rfl (lv_at hl 0 rfl) ?_
          refine hm_get C M 17 (by decide) q2084 (v := .long (hm_gW σ16)) rfl dX5_isName_27 ?_
          refine lv_aload_n hx hb dX5_isName_30 rfl (lv_at hl 0 rfl) ?_
          refine hm_get C M 10 (by decide) q2077 (v := .ref (b 10)) rfl dX5_isName_31 ?_
          refine lv_iload_n hx hb dX5_isName_34 rfl (lv_at hl 2 rfl) ?_
          obtain ⟨g1, hf⟩ := hf
          refine hm_ald10 C M g1 dX5_isName_35 ?_
          refine W.lcmp hx hb dX5_isName_36 ?_
          obtain ⟨hft, hff⟩ := hf
          refine lv_if_eq (tgt := 44) hx hb dX5_isName_37 (by decide) (fun c1 => ?_) (fun c1 => ?_)
          · have hf := hft c1
            refine lv_iconst (v := 0) hx hb dX5_isName_44 rfl ?_
            refine lv_istore_n (lv' := [(1, .int 0), (0, .ref o), (2, .int v2_16)]) hx hb dX5_isName_45 rfl hl (by decide) rfl (fun ls hl => ?_)
            refine lv_iinc (v := v2_16 + 1) (lv' := [(2, .int (v2_16 + 1)), (1, .int 0), (0, .ref o)]) hx hb dX5_isName_46 hl (k := 2) rfl rfl (by decide) rfl (fun ls hl => ?_)
            refine lv_goto (tgt := 16) hx hb dX5_isName_49 (by decide) ?_
            exact ih16 0 (v2_16 + 1) σ16 _ _ _ M (lv_sub hl [2, 1, 0] rfl) hf
          · have hf := hff c1
            refine lv_iconst (v := 1) hx hb dX5_isName_40 rfl ?_
            refine lv_goto (tgt := 45) hx hb dX5_isName_41 (by decide) ?_
            refine lv_istore_n (lv' := [(1, .int 1), (0, .ref o), (2, .int v2_16)]) hx hb dX5_isName_45 rfl hl (by decide) rfl (fun ls hl => ?_)
            refine lv_iinc (v := v2_16 + 1) (lv' := [(2, .int (v2_16 + 1)), (1, .int 1), (0, .ref o)]) hx hb dX5_isName_46 hl (k := 2) rfl rfl (by decide) rfl (fun ls hl => ?_)
            refine lv_goto (tgt := 16) hx hb dX5_isName_49 (by decide) ?_
            exact ih16 1 (v2_16 + 1) σ16 _ _ _ M (lv_sub hl [2, 1, 0] rfl) hf
  refine lv_aload_n hx hb dX5_isName_0 rfl (lv_at hl 0 rfl) ?_
  refine hm_get C M 11 (by decide) q2078 (v := .int (hm_gI σ 11)) rfl dX5_isName_1 ?_
  refine lv_iconst (v := 1) hx hb dX5_isName_4 rfl ?_
  obtain ⟨hft, hff⟩ := hf
  refine lv_icmp_ne (tgt := 12) hx hb dX5_isName_5 (by decide) (fun c1 => ?_) (fun c1 => ?_)
  · have hf := hft c1
    refine lv_iconst (v := 0) hx hb dX5_isName_12 rfl ?_
    refine lv_istore_n (lv' := [(1, .int 0), (0, .ref o)]) hx hb dX5_isName_13 rfl hl (by decide) rfl (fun ls hl => ?_)
    refine lv_iconst (v := 0) hx hb dX5_isName_14 rfl ?_
    refine lv_istore_n (lv' := [(2, .int 0), (1, .int 0), (0, .ref o)]) hx hb dX5_isName_15 rfl hl (by decide) rfl (fun ls hl => ?_)
    obtain ⟨nn, hf⟩ := hf
    exact B16 nn 0 0 σ _ _ _ M (lv_sub hl [2, 1, 0] rfl) hf
  · have hf := hff c1
    refine lv_iconst (v := 1) hx hb dX5_isName_8 rfl ?_
    refine lv_goto (tgt := 13) hx hb dX5_isName_9 (by decide) ?_
    refine lv_istore_n (lv' := [(1, .int 1), (0, .ref o)]) hx hb dX5_isName_13 rfl hl (by decide) rfl (fun ls hl => ?_)
    refine lv_iconst (v := 0) hx hb dX5_isName_14 rfl ?_
    refine lv_istore_n (lv' := [(2, .int 0), (1, .int 1), (0, .ref o)]) hx hb dX5_isName_15 rfl hl (by decide) rfl (fun ls hl => ?_)
    obtain ⟨nn, hf⟩ := hf
    exact B16 nn 1 0 σ _ _ _ M (lv_sub hl [2, 1, 0] rfl) hf
def hw_seek_b2 : Nat → Int32 → Int32 → Int32 → hm_S → (Int32 → hm_S → Prop) → Prop
  | 0, _, _, _, _, _ => False
  | n2 + 1, v1_2, v2_2, v3_2, σ2, Q => (v2_2 ≤ v3_2 → Q (-1) σ2) ∧ (¬ v2_2 ≤ v3_2 → vp_in (v1_2 + v3_2) 24 ∧ ((¬ (lg_cmp (hm_gL σ2 9 (v1_2 + v3_2)) (hm_gW σ2)) = 0 → hw_seek_b2  n2 v1_2 v2_2 (v3_2 + 1) σ2 Q) ∧ ((lg_cmp (hm_gL σ2 9 (v1_2 + v3_2)) (hm_gW σ2)) = 0 → Q v3_2 σ2)))
def hw_seek (a1 : Int32) (a2 : Int32) (σ : hm_S) (Q : Int32 → hm_S → Prop) : Prop := ∃ n, hw_seek_b2  n a1 a2 0 σ Q
set_option maxHeartbeats 4000000 in
set_option maxRecDepth 100000 in
theorem hk_seek (l : Launch) (D : va_G) (dA : Nat → ClassId) (o : Nat) (b : Nat → Nat) (hB : hm_D dA o b) (a1 : Int32) (a2 : Int32) (σ : hm_S) {Q : Int32 → hm_S → Prop} (hf : hw_seek a1 a2 σ Q) : Met l yX5_seek (ws_ yX5_seek cX5_seek 4 (some .int)) (hb_R 0 0) (va_Pc [.ref o, .int a1, .int a2] (hm_U D dA o b σ)) (va_Qi Q (hm_U D dA o b) (hm_A o b)) 0 0 (hm_A o b) := by
  refine hm_Mi hB (LV := [(0, .ref o), (1, .int a1), (2, .int a2)]) (by decide) rfl (Nat.le_of_ble_eq_true rfl) (fun p e s m args below meth c ls QQ C M hl hret => ?_)
  have hx := C.1.1
  have hb := C.1.2.1
  have B2 : ∀ (n2 : Nat) (v1_2 : Int32) (v2_2 : Int32) (v3_2 : Int32) (σ2 : hm_S) (H : Heap) (locs : List Loc) (ls : Array Slot), hm_M D dA o b s.heap σ2 H locs → lv_has ls 4 [(0, .ref o), (1, .int v1_2), (2, .int v2_2), (3, .int v3_2)] → hw_seek_b2  n2 v1_2 v2_2 v3_2 σ2 Q → W p l e (hb_R 0 0) s m args below meth c H locs 0 0 QQ (F0 m 2 ls []) := by
    intro n2
    induction n2 with
    | zero => intro v1_2 v2_2 v3_2 σ2 H locs ls M hl hf; exact hf.elim
    | succ n2 ih2 =>
      intro v1_2 v2_2 v3_2 σ2 H locs ls M hl hf
      refine lv_iload_n hx hb dX5_seek_2 rfl (lv_at hl 3 rfl) ?_
      refine lv_iload_n hx hb dX5_seek_3 rfl (lv_at hl 2 rfl) ?_
      obtain ⟨hft, hff⟩ := hf
      refine lv_icmp_ge (tgt := 31) hx hb dX5_seek_4 (by decide) (fun c1 => ?_) (fun c1 => ?_)
      · have hf := hft c1
        refine lv_iconst (v := (-1)) hx hb dX5_seek_31 rfl ?_
        exact hret _ _ _ _ _ _ dX5_seek_32 M hf
      · have hf := hff c1
        refine lv_aload_n hx hb dX5_seek_7 rfl (lv_at hl 0 rfl) ?_
        refine hm_get C M 9 (by decide) q2076 (v := .ref (b 9)) rfl dX5_seek_8 ?_
        refine lv_iload_n hx hb dX5_seek_11 rfl (lv_at hl 1 rfl) ?_
        refine lv_iload_n hx hb dX5_seek_12 rfl (lv_at hl 3 rfl) ?_
        refine lv_iadd hx hb dX5_seek_13 ?_
        obtain ⟨g1, hf⟩ := hf
        refine hm_ald9 C M g1 dX5_seek_14 ?_
        refine lv_aload_n hx hb dX5_seek_15 rfl (lv_at hl 0 rfl) ?_
        refine hm_get C M 17 (by decide) q2084 (v := .long (hm_gW σ2)) rfl dX5_seek_16 ?_
        refine W.lcmp hx hb dX5_seek_19 ?_
        obtain ⟨hft, hff⟩ := hf
        refine lv_if_ne (tgt := 25) hx hb dX5_seek_20 (by decide) (fun c1 => ?_) (fun c1 => ?_)
        · have hf := hft c1
          refine lv_iinc (v := v3_2 + 1) (lv' := [(3, .int (v3_2 + 1)), (0, .ref o), (1, .int v1_2), (2, .int v2_2)]) hx hb dX5_seek_25 hl (k := 3) rfl rfl (by decide) rfl (fun ls hl => ?_)
          refine lv_goto (tgt := 2) hx hb dX5_seek_28 (by decide) ?_
          exact ih2 v1_2 v2_2 (v3_2 + 1) σ2 _ _ _ M (lv_sub hl [1, 2, 3, 0] rfl) hf
        · have hf := hff c1
          refine lv_iload_n hx hb dX5_seek_23 rfl (lv_at hl 3 rfl) ?_
          exact hret _ _ _ _ _ _ dX5_seek_24 M hf
  refine lv_iconst (v := 0) hx hb dX5_seek_0 rfl ?_
  refine lv_istore_n (lv' := [(3, .int 0), (0, .ref o), (1, .int a1), (2, .int a2)]) hx hb dX5_seek_1 rfl hl (by decide) rfl (fun ls hl => ?_)
  obtain ⟨nn, hf⟩ := hf
  exact B2 nn a1 a2 0 σ _ _ _ M (lv_sub hl [1, 2, 3, 0] rfl) hf
def hw_looksAt (a1 : Int32) (a2 : Int32) (σ : hm_S) (Q : Int32 → hm_S → Prop) : Prop := hw_isName  σ (fun r_1 σ_1 => ((¬ r_1 = 0 → hw_seek a1 a2 σ_1 (fun r_17 σ_17 => ((0 ≤ (hm_gI (hm_sI σ_17 18 r_17) 18) → Q 1 (hm_sI σ_17 18 r_17)) ∧ (¬ 0 ≤ (hm_gI (hm_sI σ_17 18 r_17) 18) → hw_bad 3 (hm_sI σ_17 18 r_17) (fun r_32 σ_32 => ((r_32 = 0 → Q 0 σ_32) ∧ (¬ r_32 = 0 → Q 1 σ_32))))))) ∧ (r_1 = 0 → hw_bad 1 σ_1 (fun r_9 σ_9 => (hb_B r_9 ∧ Q r_9 σ_9)))))
set_option maxHeartbeats 4000000 in
set_option maxRecDepth 100000 in
theorem hk_looksAt (l : Launch) (D : va_G) (dA : Nat → ClassId) (o : Nat) (b : Nat → Nat) (hB : hm_D dA o b) (a1 : Int32) (a2 : Int32) (σ : hm_S) {Q : Int32 → hm_S → Prop} (hf : hw_looksAt a1 a2 σ Q) : Met l yX5_looksAt (ws_ yX5_looksAt cX5_looksAt 3 (some .boolean)) (hb_R 1 23) (va_Pc [.ref o, .int a1, .int a2] (hm_U D dA o b σ)) (va_Qi Q (hm_U D dA o b) (hm_A o b)) 0 0 (hm_A o b) := by
  refine hm_Mz hB (LV := [(0, .ref o), (1, .int a1), (2, .int a2)]) (by decide) rfl (Nat.le_of_ble_eq_true rfl) (fun p e s m args below meth c ls QQ C M hl hret => ?_)
  have hx := C.1.1
  have hb := C.1.2.1
  refine lv_aload_n hx hb dX5_looksAt_0 rfl (lv_at hl 0 rfl) ?_
  refine hm_ci C M hl.1 (As := []) (rest := []) (hk_isName l D dA o b hB  σ hf) (n := 0) q2264 q2266 qs56 q140 q2267 (by decide +kernel) rfl ⟨Nat.le_of_ble_eq_true rfl, Nat.le_of_ble_eq_true rfl⟩ rfl (Nat.le_of_ble_eq_true rfl) dX5_looksAt_1 (fun r_1 σ_1 H locs hf M => ?_)
  obtain ⟨hft, hff⟩ := hf
  refine lv_if_ne (tgt := 13) hx hb dX5_looksAt_4 (by decide) (fun c1 => ?_) (fun c1 => ?_)
  · have hf := hft c1
    refine lv_aload_n hx hb dX5_looksAt_13 rfl (lv_at hl 0 rfl) ?_
    refine lv_aload_n hx hb dX5_looksAt_14 rfl (lv_at hl 0 rfl) ?_
    refine lv_iload_n hx hb dX5_looksAt_15 rfl (lv_at hl 1 rfl) ?_
    refine lv_iload_n hx hb dX5_looksAt_16 rfl (lv_at hl 2 rfl) ?_
    refine hm_ci C M hl.1 (As := [.int a1, .int a2]) (rest := [.ref o]) (hk_seek l D dA o b hB a1 a2 σ_1 hf) (n := 2) q2268 q2270 qs57 q140 q2271 (by decide +kernel) rfl ⟨Nat.le_of_ble_eq_true rfl, Nat.le_of_ble_eq_true rfl⟩ rfl (Nat.le_of_ble_eq_true rfl) dX5_looksAt_17 (fun r_17 σ_17 H locs hf M => ?_)
    refine hm_put18 C M q2085 dX5_looksAt_20 (fun H locs M => ?_)
    refine lv_aload_n hx hb dX5_looksAt_23 rfl (lv_at hl 0 rfl) ?_
    refine hm_get C M 18 (by decide) q2085 (v := .int (hm_gI (hm_sI σ_17 18 r_17) 18)) rfl dX5_looksAt_24 ?_
    obtain ⟨hft, hff⟩ := hf
    refine lv_if_ge (tgt := 38) hx hb dX5_looksAt_27 (by decide) (fun c1 => ?_) (fun c1 => ?_)
    · have hf := hft c1
      refine lv_iconst (v := 1) hx hb dX5_looksAt_38 rfl ?_
      refine lv_goto (tgt := 43) hx hb dX5_looksAt_39 (by decide) ?_
      exact hret _ _ _ _ _ _ dX5_looksAt_43 M hb_B1 hf
    · have hf := hff c1
      refine lv_aload_n hx hb dX5_looksAt_30 rfl (lv_at hl 0 rfl) ?_
      refine lv_iconst (v := 3) hx hb dX5_looksAt_31 rfl ?_
      refine hm_ci C M hl.1 (As := [.int 3]) (rest := []) (hk_bad l D dA o b hB 3 (hm_sI σ_17 18 r_17) hf) (n := 1) q2260 q2262 qs55 q140 q2263 (by decide +kernel) rfl ⟨Nat.le_of_ble_eq_true rfl, Nat.le_of_ble_eq_true rfl⟩ rfl (Nat.le_of_ble_eq_true rfl) dX5_looksAt_32 (fun r_32 σ_32 H locs hf M => ?_)
      obtain ⟨hft, hff⟩ := hf
      refine lv_if_eq (tgt := 42) hx hb dX5_looksAt_35 (by decide) (fun c1 => ?_) (fun c1 => ?_)
      · have hf := hft c1
        refine lv_iconst (v := 0) hx hb dX5_looksAt_42 rfl ?_
        exact hret _ _ _ _ _ _ dX5_looksAt_43 M hb_B0 hf
      · have hf := hff c1
        refine lv_iconst (v := 1) hx hb dX5_looksAt_38 rfl ?_
        refine lv_goto (tgt := 43) hx hb dX5_looksAt_39 (by decide) ?_
        exact hret _ _ _ _ _ _ dX5_looksAt_43 M hb_B1 hf
  · have hf := hff c1
    refine lv_aload_n hx hb dX5_looksAt_7 rfl (lv_at hl 0 rfl) ?_
    refine lv_iconst (v := 1) hx hb dX5_looksAt_8 rfl ?_
    refine hm_ci C M hl.1 (As := [.int 1]) (rest := []) (hk_bad l D dA o b hB 1 σ_1 hf) (n := 1) q2260 q2262 qs55 q140 q2263 (by decide +kernel) rfl ⟨Nat.le_of_ble_eq_true rfl, Nat.le_of_ble_eq_true rfl⟩ rfl (Nat.le_of_ble_eq_true rfl) dX5_looksAt_9 (fun r_9 σ_9 H locs hf M => ?_)
    exact hret _ _ _ _ _ _ dX5_looksAt_12 M hf.1 hf.2
def hw_readDies  (σ : hm_S) (Q : Int32 → hm_S → Prop) : Prop := hw_next  σ (fun σ_1 => (vp_in 0 100 ∧ (hw_looksAt 12 (hm_gA σ_1 7 0) σ_1 (fun r_13 σ_13 => ((¬ r_13 = 0 → vp_in (51 + (hm_gI σ_13 18)) 100 ∧ (((hm_gA σ_13 7 (51 + (hm_gI σ_13 18))) ≤ 0 → hw_next  σ_13 (fun σ_45 => (hw_puts (51 + (hm_gI σ_13 18)) 100 199 σ_45 (fun r_58 σ_58 => (hb_B r_58 ∧ Q r_58 σ_58))))) ∧ (¬ (hm_gA σ_13 7 (51 + (hm_gI σ_13 18))) ≤ 0 → hw_bad 3 σ_13 (fun r_40 σ_40 => (hb_B r_40 ∧ Q r_40 σ_40))))) ∧ (r_13 = 0 → Q 0 σ_13))))))
set_option maxHeartbeats 4000000 in
set_option maxRecDepth 100000 in
theorem hk_readDies (l : Launch) (D : va_G) (dA : Nat → ClassId) (o : Nat) (b : Nat → Nat) (hB : hm_D dA o b)  (σ : hm_S) {Q : Int32 → hm_S → Prop} (hf : hw_readDies  σ Q) : Met l yX5_readDies (ws_ yX5_readDies cX5_readDies 2 (some .boolean)) (hb_R 4 88) (va_Pc [.ref o] (hm_U D dA o b σ)) (va_Qi Q (hm_U D dA o b) (hm_A o b)) 0 0 (hm_A o b) := by
  refine hm_Mz hB (LV := [(0, .ref o)]) (by decide) rfl (Nat.le_of_ble_eq_true rfl) (fun p e s m args below meth c ls QQ C M hl hret => ?_)
  have hx := C.1.1
  have hb := C.1.2.1
  refine lv_aload_n hx hb dX5_readDies_0 rfl (lv_at hl 0 rfl) ?_
  refine hm_cv C M hl.1 (As := []) (rest := []) (hk_next l D dA o b hB  σ hf) (n := 0) q2234 q2236 qs50 q140 q2237 (by decide +kernel) rfl ⟨Nat.le_of_ble_eq_true rfl, Nat.le_of_ble_eq_true rfl⟩ rfl (Nat.le_of_ble_eq_true rfl) dX5_readDies_1 (fun σ_1 H locs hf M => ?_)
  refine lv_aload_n hx hb dX5_readDies_4 rfl (lv_at hl 0 rfl) ?_
  refine lv_bipush (v := 12) hx hb dX5_readDies_5 rfl ?_
  refine lv_aload_n hx hb dX5_readDies_7 rfl (lv_at hl 0 rfl) ?_
  refine hm_get C M 7 (by decide) q2074 (v := .ref (b 7)) rfl dX5_readDies_8 ?_
  refine lv_iconst (v := 0) hx hb dX5_readDies_11 rfl ?_
  obtain ⟨g1, hf⟩ := hf
  refine hm_ald7 C M g1 dX5_readDies_12 ?_
  refine hm_ci C M hl.1 (As := [.int 12, .int (hm_gA σ_1 7 0)]) (rest := []) (hk_looksAt l D dA o b hB 12 (hm_gA σ_1 7 0) σ_1 hf) (n := 2) q2287 q2289 qs61 q140 q2290 (by decide +kernel) rfl ⟨Nat.le_of_ble_eq_true rfl, Nat.le_of_ble_eq_true rfl⟩ rfl (Nat.le_of_ble_eq_true rfl) dX5_readDies_13 (fun r_13 σ_13 H locs hf M => ?_)
  obtain ⟨hft, hff⟩ := hf
  refine lv_if_ne (tgt := 21) hx hb dX5_readDies_16 (by decide) (fun c1 => ?_) (fun c1 => ?_)
  · have hf := hft c1
    refine lv_aload_n hx hb dX5_readDies_21 rfl (lv_at hl 0 rfl) ?_
    refine hm_get C M 18 (by decide) q2085 (v := .int (hm_gI σ_13 18)) rfl dX5_readDies_22 ?_
    refine lv_istore_n (lv' := [(1, .int (hm_gI σ_13 18)), (0, .ref o)]) hx hb dX5_readDies_25 rfl hl (by decide) rfl (fun ls hl => ?_)
    refine lv_aload_n hx hb dX5_readDies_26 rfl (lv_at hl 1 rfl) ?_
    refine hm_get C M 7 (by decide) q2074 (v := .ref (b 7)) rfl dX5_readDies_27 ?_
    refine lv_bipush (v := 51) hx hb dX5_readDies_30 rfl ?_
    refine lv_iload_n hx hb dX5_readDies_32 rfl (lv_at hl 0 rfl) ?_
    refine lv_iadd hx hb dX5_readDies_33 ?_
    obtain ⟨g1, hf⟩ := hf
    refine hm_ald7 C M g1 dX5_readDies_34 ?_
    obtain ⟨hft, hff⟩ := hf
    refine lv_if_le (tgt := 44) hx hb dX5_readDies_35 (by decide) (fun c1 => ?_) (fun c1 => ?_)
    · have hf := hft c1
      refine lv_aload_n hx hb dX5_readDies_44 rfl (lv_at hl 1 rfl) ?_
      refine hm_cv C M hl.1 (As := []) (rest := []) (hk_next l D dA o b hB  σ_13 hf) (n := 0) q2234 q2236 qs50 q140 q2237 (by decide +kernel) rfl ⟨Nat.le_of_ble_eq_true rfl, Nat.le_of_ble_eq_true rfl⟩ rfl (Nat.le_of_ble_eq_true rfl) dX5_readDies_45 (fun σ_45 H locs hf M => ?_)
      refine lv_aload_n hx hb dX5_readDies_48 rfl (lv_at hl 1 rfl) ?_
      refine lv_bipush (v := 51) hx hb dX5_readDies_49 rfl ?_
      refine lv_iload_n hx hb dX5_readDies_51 rfl (lv_at hl 0 rfl) ?_
      refine lv_iadd hx hb dX5_readDies_52 ?_
      refine lv_bipush (v := 100) hx hb dX5_readDies_53 rfl ?_
      refine lv_sipush (v := 199) hx hb dX5_readDies_55 rfl ?_
      refine hm_ci C M hl.1 (As := [.int (51 + (hm_gI σ_13 18)), .int 100, .int 199]) (rest := []) (hk_puts l D dA o b hB (51 + (hm_gI σ_13 18)) 100 199 σ_45 hf) (n := 3) q2272 q2274 qs58 q140 q2275 (by decide +kernel) rfl ⟨Nat.le_of_ble_eq_true rfl, Nat.le_of_ble_eq_true rfl⟩ rfl (Nat.le_of_ble_eq_true rfl) dX5_readDies_58 (fun r_58 σ_58 H locs hf M => ?_)
      exact hret _ _ _ _ _ _ dX5_readDies_61 M hf.1 hf.2
    · have hf := hff c1
      refine lv_aload_n hx hb dX5_readDies_38 rfl (lv_at hl 1 rfl) ?_
      refine lv_iconst (v := 3) hx hb dX5_readDies_39 rfl ?_
      refine hm_ci C M hl.1 (As := [.int 3]) (rest := []) (hk_bad l D dA o b hB 3 σ_13 hf) (n := 1) q2260 q2262 qs55 q140 q2263 (by decide +kernel) rfl ⟨Nat.le_of_ble_eq_true rfl, Nat.le_of_ble_eq_true rfl⟩ rfl (Nat.le_of_ble_eq_true rfl) dX5_readDies_40 (fun r_40 σ_40 H locs hf M => ?_)
      exact hret _ _ _ _ _ _ dX5_readDies_43 M hf.1 hf.2
  · have hf := hff c1
    refine lv_iconst (v := 0) hx hb dX5_readDies_19 rfl ?_
    exact hret _ _ _ _ _ _ dX5_readDies_20 M hb_B0 hf
def hw_bitOf (a0 : Int32) (a1 : Int32) (σ : hm_S) (Q : Int32 → hm_S → Prop) : Prop := (¬ ((a0 >>> (a1 &&& 31)) &&& 1) = 1 → Q 0 σ) ∧ (((a0 >>> (a1 &&& 31)) &&& 1) = 1 → Q 1 σ)
set_option maxHeartbeats 4000000 in
set_option maxRecDepth 100000 in
theorem hk_bitOf (l : Launch) (D : va_G) (dA : Nat → ClassId) (o : Nat) (b : Nat → Nat) (hB : hm_D dA o b) (a0 : Int32) (a1 : Int32) (σ : hm_S) {Q : Int32 → hm_S → Prop} (hf : hw_bitOf a0 a1 σ Q) : Met l yX5_bitOf (ws_ yX5_bitOf cX5_bitOf 2 (some .boolean)) (hb_R 0 0) (va_Pc [.int a0, .int a1] (hm_U D dA o b σ)) (va_Qi Q (hm_U D dA o b) (hm_A o b)) 0 0 (hm_A o b) := by
  refine hm_Mz hB (LV := [(0, .int a0), (1, .int a1)]) (by decide) rfl (Nat.le_of_ble_eq_true rfl) (fun p e s m args below meth c ls QQ C M hl hret => ?_)
  have hx := C.1.1
  have hb := C.1.2.1
  refine lv_iload_n hx hb dX5_bitOf_0 rfl (lv_at hl 0 rfl) ?_
  refine lv_iload_n hx hb dX5_bitOf_1 rfl (lv_at hl 1 rfl) ?_
  refine lv_ishr hx hb dX5_bitOf_2 ?_
  refine lv_iconst (v := 1) hx hb dX5_bitOf_3 rfl ?_
  refine lv_iand hx hb dX5_bitOf_4 ?_
  refine lv_iconst (v := 1) hx hb dX5_bitOf_5 rfl ?_
  obtain ⟨hft, hff⟩ := hf
  refine lv_icmp_ne (tgt := 13) hx hb dX5_bitOf_6 (by decide) (fun c1 => ?_) (fun c1 => ?_)
  · have hf := hft c1
    refine lv_iconst (v := 0) hx hb dX5_bitOf_13 rfl ?_
    exact hret _ _ _ _ _ _ dX5_bitOf_14 M hb_B0 hf
  · have hf := hff c1
    refine lv_iconst (v := 1) hx hb dX5_bitOf_9 rfl ?_
    refine lv_goto (tgt := 14) hx hb dX5_bitOf_10 (by decide) ?_
    exact hret _ _ _ _ _ _ dX5_bitOf_14 M hb_B1 hf
def hw_bits_b4 : Nat → Int32 → Int32 → hm_S → (Int32 → hm_S → Prop) → Prop
  | 0, _, _, _, _ => False
  | n4 + 1, v1_4, v2_4, σ4, Q => (v2_4 = 0 → Q v1_4 σ4) ∧ (¬ v2_4 = 0 → hw_bits_b4  n4 (v1_4 + 1) (v2_4 &&& (v2_4 - 1)) σ4 Q)
def hw_bits (a0 : Int32) (σ : hm_S) (Q : Int32 → hm_S → Prop) : Prop := ∃ n, hw_bits_b4  n 0 a0 σ Q
set_option maxHeartbeats 4000000 in
set_option maxRecDepth 100000 in
theorem hk_bits (l : Launch) (D : va_G) (dA : Nat → ClassId) (o : Nat) (b : Nat → Nat) (hB : hm_D dA o b) (a0 : Int32) (σ : hm_S) {Q : Int32 → hm_S → Prop} (hf : hw_bits a0 σ Q) : Met l yX5_bits (ws_ yX5_bits cX5_bits 3 (some .int)) (hb_R 0 0) (va_Pc [.int a0] (hm_U D dA o b σ)) (va_Qi Q (hm_U D dA o b) (hm_A o b)) 0 0 (hm_A o b) := by
  refine hm_Mi hB (LV := [(0, .int a0)]) (by decide) rfl (Nat.le_of_ble_eq_true rfl) (fun p e s m args below meth c ls QQ C M hl hret => ?_)
  have hx := C.1.1
  have hb := C.1.2.1
  have B4 : ∀ (n4 : Nat) (v1_4 : Int32) (v2_4 : Int32) (σ4 : hm_S) (H : Heap) (locs : List Loc) (ls : Array Slot), hm_M D dA o b s.heap σ4 H locs → lv_has ls 3 [(1, .int v1_4), (2, .int v2_4)] → hw_bits_b4  n4 v1_4 v2_4 σ4 Q → W p l e (hb_R 0 0) s m args below meth c H locs 0 0 QQ (F0 m 4 ls []) := by
    intro n4
    induction n4 with
    | zero => intro v1_4 v2_4 σ4 H locs ls M hl hf; exact hf.elim
    | succ n4 ih4 =>
      intro v1_4 v2_4 σ4 H locs ls M hl hf
      refine lv_iload_n hx hb dX5_bits_4 rfl (lv_at hl 1 rfl) ?_
      obtain ⟨hft, hff⟩ := hf
      refine lv_if_eq (tgt := 20) hx hb dX5_bits_5 (by decide) (fun c1 => ?_) (fun c1 => ?_)
      · have hf := hft c1
        refine lv_iload_n hx hb dX5_bits_20 rfl (lv_at hl 0 rfl) ?_
        exact hret _ _ _ _ _ _ dX5_bits_21 M hf
      · have hf := hff c1
        refine lv_iinc (v := v1_4 + 1) (lv' := [(1, .int (v1_4 + 1)), (2, .int v2_4)]) hx hb dX5_bits_8 hl (k := 0) rfl rfl (by decide) rfl (fun ls hl => ?_)
        refine lv_iload_n hx hb dX5_bits_11 rfl (lv_at hl 1 rfl) ?_
        refine lv_iload_n hx hb dX5_bits_12 rfl (lv_at hl 1 rfl) ?_
        refine lv_iconst (v := 1) hx hb dX5_bits_13 rfl ?_
        refine lv_isub hx hb dX5_bits_14 ?_
        refine lv_iand hx hb dX5_bits_15 ?_
        refine lv_istore_n (lv' := [(2, .int (v2_4 &&& (v2_4 - 1))), (1, .int (v1_4 + 1))]) hx hb dX5_bits_16 rfl hl (by decide) rfl (fun ls hl => ?_)
        refine lv_goto (tgt := 4) hx hb dX5_bits_17 (by decide) ?_
        exact ih4 (v1_4 + 1) (v2_4 &&& (v2_4 - 1)) σ4 _ _ _ M (lv_sub hl [1, 0] rfl) hf
  refine lv_iconst (v := 0) hx hb dX5_bits_0 rfl ?_
  refine lv_istore_n (lv' := [(1, .int 0), (0, .int a0)]) hx hb dX5_bits_1 rfl hl (by decide) rfl (fun ls hl => ?_)
  refine lv_iload_n hx hb dX5_bits_2 rfl (lv_at hl 1 rfl) ?_
  refine lv_istore_n (lv' := [(2, .int a0), (1, .int 0), (0, .int a0)]) hx hb dX5_bits_3 rfl hl (by decide) rfl (fun ls hl => ?_)
  obtain ⟨nn, hf⟩ := hf
  exact B4 nn 0 a0 σ _ _ _ M (lv_sub hl [1, 0] rfl) hf
def hw_readParent  (σ : hm_S) (Q : Int32 → hm_S → Prop) : Prop := hw_next  σ (fun σ_1 => (vp_in 0 100 ∧ (hw_looksAt 12 (hm_gA σ_1 7 0) σ_1 (fun r_13 σ_13 => ((¬ r_13 = 0 → vp_in (27 + (hm_gI σ_13 18)) 100 ∧ (hw_bits (hm_gA σ_13 7 (27 + (hm_gI σ_13 18))) σ_13 (fun r_35 σ_35 => ((¬ r_35 = 2 → hw_next  σ_35 (fun σ_49 => (vp_in 0 100 ∧ (hw_looksAt 12 (hm_gA σ_49 7 0) σ_49 (fun r_61 σ_61 => ((¬ r_61 = 0 → vp_in (3 + (hm_gI σ_61 18)) 100 ∧ (vp_in (3 + (hm_gI σ_13 18)) 100 ∧ (((hm_gA σ_61 7 (3 + (hm_gI σ_13 18))) ≤ (hm_gA σ_61 7 (3 + (hm_gI σ_61 18))) → hw_bad 3 σ_61 (fun r_112 σ_112 => (hb_B r_112 ∧ Q r_112 σ_112))) ∧ (¬ (hm_gA σ_61 7 (3 + (hm_gI σ_13 18))) ≤ (hm_gA σ_61 7 (3 + (hm_gI σ_61 18))) → vp_in (27 + (hm_gI σ_13 18)) 100 ∧ (hw_bitOf (hm_gA σ_61 7 (27 + (hm_gI σ_13 18))) (hm_gI σ_61 18) σ_61 (fun r_104 σ_104 => ((r_104 = 0 → vp_in (27 + (hm_gI σ_13 18)) 100 ∧ (vp_in (27 + (hm_gI σ_13 18)) 100 ∧ (vp_in 1 100 ∧ (vp_in 1 100 ∧ (hw_next  (hm_sA (hm_sA σ_104 7 (27 + (hm_gI σ_13 18)) ((hm_gA σ_104 7 (27 + (hm_gI σ_13 18))) ||| ((1 : Int32) <<< ((hm_gI σ_104 18) &&& 31)))) 7 1 ((hm_gA (hm_sA σ_104 7 (27 + (hm_gI σ_13 18)) ((hm_gA σ_104 7 (27 + (hm_gI σ_13 18))) ||| ((1 : Int32) <<< ((hm_gI σ_104 18) &&& 31)))) 7 1) + 1)) (fun σ_145 => (Q 1 σ_145))))))) ∧ (¬ r_104 = 0 → hw_bad 3 σ_104 (fun r_112 σ_112 => (hb_B r_112 ∧ Q r_112 σ_112)))))))))) ∧ (r_61 = 0 → Q 0 σ_61))))))) ∧ (r_35 = 2 → hw_bad 4 σ_35 (fun r_44 σ_44 => (hb_B r_44 ∧ Q r_44 σ_44))))))) ∧ (r_13 = 0 → Q 0 σ_13))))))
set_option maxHeartbeats 4000000 in
set_option maxRecDepth 100000 in
theorem hk_readParent (l : Launch) (D : va_G) (dA : Nat → ClassId) (o : Nat) (b : Nat → Nat) (hB : hm_D dA o b)  (σ : hm_S) {Q : Int32 → hm_S → Prop} (hf : hw_readParent  σ Q) : Met l yX5_readParent (ws_ yX5_readParent cX5_readParent 2 (some .boolean)) (hb_R 2 45) (va_Pc [.ref o] (hm_U D dA o b σ)) (va_Qi Q (hm_U D dA o b) (hm_A o b)) 0 0 (hm_A o b) := by
  refine hm_Mz hB (LV := [(0, .ref o)]) (by decide) rfl (Nat.le_of_ble_eq_true rfl) (fun p e s m args below meth c ls QQ C M hl hret => ?_)
  have hx := C.1.1
  have hb := C.1.2.1
  refine lv_aload_n hx hb dX5_readParent_0 rfl (lv_at hl 0 rfl) ?_
  refine hm_cv C M hl.1 (As := []) (rest := []) (hk_next l D dA o b hB  σ hf) (n := 0) q2234 q2236 qs50 q140 q2237 (by decide +kernel) rfl ⟨Nat.le_of_ble_eq_true rfl, Nat.le_of_ble_eq_true rfl⟩ rfl (Nat.le_of_ble_eq_true rfl) dX5_readParent_1 (fun σ_1 H locs hf M => ?_)
  refine lv_aload_n hx hb dX5_readParent_4 rfl (lv_at hl 0 rfl) ?_
  refine lv_bipush (v := 12) hx hb dX5_readParent_5 rfl ?_
  refine lv_aload_n hx hb dX5_readParent_7 rfl (lv_at hl 0 rfl) ?_
  refine hm_get C M 7 (by decide) q2074 (v := .ref (b 7)) rfl dX5_readParent_8 ?_
  refine lv_iconst (v := 0) hx hb dX5_readParent_11 rfl ?_
  obtain ⟨g1, hf⟩ := hf
  refine hm_ald7 C M g1 dX5_readParent_12 ?_
  refine hm_ci C M hl.1 (As := [.int 12, .int (hm_gA σ_1 7 0)]) (rest := []) (hk_looksAt l D dA o b hB 12 (hm_gA σ_1 7 0) σ_1 hf) (n := 2) q2287 q2289 qs61 q140 q2290 (by decide +kernel) rfl ⟨Nat.le_of_ble_eq_true rfl, Nat.le_of_ble_eq_true rfl⟩ rfl (Nat.le_of_ble_eq_true rfl) dX5_readParent_13 (fun r_13 σ_13 H locs hf M => ?_)
  obtain ⟨hft, hff⟩ := hf
  refine lv_if_ne (tgt := 21) hx hb dX5_readParent_16 (by decide) (fun c1 => ?_) (fun c1 => ?_)
  · have hf := hft c1
    refine lv_aload_n hx hb dX5_readParent_21 rfl (lv_at hl 0 rfl) ?_
    refine hm_get C M 18 (by decide) q2085 (v := .int (hm_gI σ_13 18)) rfl dX5_readParent_22 ?_
    refine lv_istore_n (lv' := [(1, .int (hm_gI σ_13 18)), (0, .ref o)]) hx hb dX5_readParent_25 rfl hl (by decide) rfl (fun ls hl => ?_)
    refine lv_aload_n hx hb dX5_readParent_26 rfl (lv_at hl 1 rfl) ?_
    refine hm_get C M 7 (by decide) q2074 (v := .ref (b 7)) rfl dX5_readParent_27 ?_
    refine lv_bipush (v := 27) hx hb dX5_readParent_30 rfl ?_
    refine lv_iload_n hx hb dX5_readParent_32 rfl (lv_at hl 0 rfl) ?_
    refine lv_iadd hx hb dX5_readParent_33 ?_
    obtain ⟨g1, hf⟩ := hf
    refine hm_ald7 C M g1 dX5_readParent_34 ?_
    refine hm_csi C M hl.1 (As := [.int (hm_gA σ_13 7 (27 + (hm_gI σ_13 18)))]) (rest := []) (hk_bits l D dA o b hB (hm_gA σ_13 7 (27 + (hm_gI σ_13 18))) σ_13 hf) (n := 1) q2291 q2292 q140 q2293 (by decide +kernel) rfl ⟨Nat.le_of_ble_eq_true rfl, Nat.le_of_ble_eq_true rfl⟩ rfl (Nat.le_of_ble_eq_true rfl) dX5_readParent_35 (fun r_35 σ_35 H locs hf M => ?_)
    refine lv_iconst (v := 2) hx hb dX5_readParent_38 rfl ?_
    obtain ⟨hft, hff⟩ := hf
    refine lv_icmp_ne (tgt := 48) hx hb dX5_readParent_39 (by decide) (fun c1 => ?_) (fun c1 => ?_)
    · have hf := hft c1
      refine lv_aload_n hx hb dX5_readParent_48 rfl (lv_at hl 1 rfl) ?_
      refine hm_cv C M hl.1 (As := []) (rest := []) (hk_next l D dA o b hB  σ_35 hf) (n := 0) q2234 q2236 qs50 q140 q2237 (by decide +kernel) rfl ⟨Nat.le_of_ble_eq_true rfl, Nat.le_of_ble_eq_true rfl⟩ rfl (Nat.le_of_ble_eq_true rfl) dX5_readParent_49 (fun σ_49 H locs hf M => ?_)
      refine lv_aload_n hx hb dX5_readParent_52 rfl (lv_at hl 1 rfl) ?_
      refine lv_bipush (v := 12) hx hb dX5_readParent_53 rfl ?_
      refine lv_aload_n hx hb dX5_readParent_55 rfl (lv_at hl 1 rfl) ?_
      refine hm_get C M 7 (by decide) q2074 (v := .ref (b 7)) rfl dX5_readParent_56 ?_
      refine lv_iconst (v := 0) hx hb dX5_readParent_59 rfl ?_
      obtain ⟨g1, hf⟩ := hf
      refine hm_ald7 C M g1 dX5_readParent_60 ?_
      refine hm_ci C M hl.1 (As := [.int 12, .int (hm_gA σ_49 7 0)]) (rest := []) (hk_looksAt l D dA o b hB 12 (hm_gA σ_49 7 0) σ_49 hf) (n := 2) q2287 q2289 qs61 q140 q2290 (by decide +kernel) rfl ⟨Nat.le_of_ble_eq_true rfl, Nat.le_of_ble_eq_true rfl⟩ rfl (Nat.le_of_ble_eq_true rfl) dX5_readParent_61 (fun r_61 σ_61 H locs hf M => ?_)
      obtain ⟨hft, hff⟩ := hf
      refine lv_if_ne (tgt := 69) hx hb dX5_readParent_64 (by decide) (fun c1 => ?_) (fun c1 => ?_)
      · have hf := hft c1
        refine lv_aload_n hx hb dX5_readParent_69 rfl (lv_at hl 1 rfl) ?_
        refine hm_get C M 7 (by decide) q2074 (v := .ref (b 7)) rfl dX5_readParent_70 ?_
        refine lv_iconst (v := 3) hx hb dX5_readParent_73 rfl ?_
        refine lv_aload_n hx hb dX5_readParent_74 rfl (lv_at hl 1 rfl) ?_
        refine hm_get C M 18 (by decide) q2085 (v := .int (hm_gI σ_61 18)) rfl dX5_readParent_75 ?_
        refine lv_iadd hx hb dX5_readParent_78 ?_
        obtain ⟨g1, hf⟩ := hf
        refine hm_ald7 C M g1 dX5_readParent_79 ?_
        refine lv_aload_n hx hb dX5_readParent_80 rfl (lv_at hl 1 rfl) ?_
        refine hm_get C M 7 (by decide) q2074 (v := .ref (b 7)) rfl dX5_readParent_81 ?_
        refine lv_iconst (v := 3) hx hb dX5_readParent_84 rfl ?_
        refine lv_iload_n hx hb dX5_readParent_85 rfl (lv_at hl 0 rfl) ?_
        refine lv_iadd hx hb dX5_readParent_86 ?_
        obtain ⟨g1, hf⟩ := hf
        refine hm_ald7 C M g1 dX5_readParent_87 ?_
        obtain ⟨hft, hff⟩ := hf
        refine lv_icmp_ge (tgt := 110) hx hb dX5_readParent_88 (by decide) (fun c1 => ?_) (fun c1 => ?_)
        · have hf := hft c1
          refine lv_aload_n hx hb dX5_readParent_110 rfl (lv_at hl 1 rfl) ?_
          refine lv_iconst (v := 3) hx hb dX5_readParent_111 rfl ?_
          refine hm_ci C M hl.1 (As := [.int 3]) (rest := []) (hk_bad l D dA o b hB 3 σ_61 hf) (n := 1) q2260 q2262 qs55 q140 q2263 (by decide +kernel) rfl ⟨Nat.le_of_ble_eq_true rfl, Nat.le_of_ble_eq_true rfl⟩ rfl (Nat.le_of_ble_eq_true rfl) dX5_readParent_112 (fun r_112 σ_112 H locs hf M => ?_)
          exact hret _ _ _ _ _ _ dX5_readParent_115 M hf.1 hf.2
        · have hf := hff c1
          refine lv_aload_n hx hb dX5_readParent_91 rfl (lv_at hl 1 rfl) ?_
          refine hm_get C M 7 (by decide) q2074 (v := .ref (b 7)) rfl dX5_readParent_92 ?_
          refine lv_bipush (v := 27) hx hb dX5_readParent_95 rfl ?_
          refine lv_iload_n hx hb dX5_readParent_97 rfl (lv_at hl 0 rfl) ?_
          refine lv_iadd hx hb dX5_readParent_98 ?_
          obtain ⟨g1, hf⟩ := hf
          refine hm_ald7 C M g1 dX5_readParent_99 ?_
          refine lv_aload_n hx hb dX5_readParent_100 rfl (lv_at hl 1 rfl) ?_
          refine hm_get C M 18 (by decide) q2085 (v := .int (hm_gI σ_61 18)) rfl dX5_readParent_101 ?_
          refine hm_csi C M hl.1 (As := [.int (hm_gA σ_61 7 (27 + (hm_gI σ_13 18))), .int (hm_gI σ_61 18)]) (rest := []) (hk_bitOf l D dA o b hB (hm_gA σ_61 7 (27 + (hm_gI σ_13 18))) (hm_gI σ_61 18) σ_61 hf) (n := 2) q2294 q2295 q140 q2296 (by decide +kernel) rfl ⟨Nat.le_of_ble_eq_true rfl, Nat.le_of_ble_eq_true rfl⟩ rfl (Nat.le_of_ble_eq_true rfl) dX5_readParent_104 (fun r_104 σ_104 H locs hf M => ?_)
          obtain ⟨hft, hff⟩ := hf
          refine lv_if_eq (tgt := 116) hx hb dX5_readParent_107 (by decide) (fun c1 => ?_) (fun c1 => ?_)
          · have hf := hft c1
            refine lv_aload_n hx hb dX5_readParent_116 rfl (lv_at hl 1 rfl) ?_
            refine hm_get C M 7 (by decide) q2074 (v := .ref (b 7)) rfl dX5_readParent_117 ?_
            refine lv_bipush (v := 27) hx hb dX5_readParent_120 rfl ?_
            refine lv_iload_n hx hb dX5_readParent_122 rfl (lv_at hl 0 rfl) ?_
            refine lv_iadd hx hb dX5_readParent_123 ?_
            refine lv_dup2_11 hx hb dX5_readParent_124 rfl rfl ?_
            obtain ⟨g1, hf⟩ := hf
            refine hm_ald7 C M g1 dX5_readParent_125 ?_
            refine lv_iconst (v := 1) hx hb dX5_readParent_126 rfl ?_
            refine lv_aload_n hx hb dX5_readParent_127 rfl (lv_at hl 1 rfl) ?_
            refine hm_get C M 18 (by decide) q2085 (v := .int (hm_gI σ_104 18)) rfl dX5_readParent_128 ?_
            refine lv_ishl hx hb dX5_readParent_131 ?_
            refine lv_ior hx hb dX5_readParent_132 ?_
            obtain ⟨g1, hf⟩ := hf
            refine hm_ast7 C M g1 dX5_readParent_133 (fun H locs M => ?_)
            refine lv_aload_n hx hb dX5_readParent_134 rfl (lv_at hl 1 rfl) ?_
            refine hm_get C M 7 (by decide) q2074 (v := .ref (b 7)) rfl dX5_readParent_135 ?_
            refine lv_iconst (v := 1) hx hb dX5_readParent_138 rfl ?_
            refine lv_dup2_11 hx hb dX5_readParent_139 rfl rfl ?_
            obtain ⟨g1, hf⟩ := hf
            refine hm_ald7 C M g1 dX5_readParent_140 ?_
            refine lv_iconst (v := 1) hx hb dX5_readParent_141 rfl ?_
            refine lv_iadd hx hb dX5_readParent_142 ?_
            obtain ⟨g1, hf⟩ := hf
            refine hm_ast7 C M g1 dX5_readParent_143 (fun H locs M => ?_)
            refine lv_aload_n hx hb dX5_readParent_144 rfl (lv_at hl 1 rfl) ?_
            refine hm_cv C M hl.1 (As := []) (rest := []) (hk_next l D dA o b hB  (hm_sA (hm_sA σ_104 7 (27 + (hm_gI σ_13 18)) ((hm_gA σ_104 7 (27 + (hm_gI σ_13 18))) ||| ((1 : Int32) <<< ((hm_gI σ_104 18) &&& 31)))) 7 1 ((hm_gA (hm_sA σ_104 7 (27 + (hm_gI σ_13 18)) ((hm_gA σ_104 7 (27 + (hm_gI σ_13 18))) ||| ((1 : Int32) <<< ((hm_gI σ_104 18) &&& 31)))) 7 1) + 1)) hf) (n := 0) q2234 q2236 qs50 q140 q2237 (by decide +kernel) rfl ⟨Nat.le_of_ble_eq_true rfl, Nat.le_of_ble_eq_true rfl⟩ rfl (Nat.le_of_ble_eq_true rfl) dX5_readParent_145 (fun σ_145 H locs hf M => ?_)
            refine lv_iconst (v := 1) hx hb dX5_readParent_148 rfl ?_
            exact hret _ _ _ _ _ _ dX5_readParent_149 M hb_B1 hf
          · have hf := hff c1
            refine lv_aload_n hx hb dX5_readParent_110 rfl (lv_at hl 1 rfl) ?_
            refine lv_iconst (v := 3) hx hb dX5_readParent_111 rfl ?_
            refine hm_ci C M hl.1 (As := [.int 3]) (rest := []) (hk_bad l D dA o b hB 3 σ_104 hf) (n := 1) q2260 q2262 qs55 q140 q2263 (by decide +kernel) rfl ⟨Nat.le_of_ble_eq_true rfl, Nat.le_of_ble_eq_true rfl⟩ rfl (Nat.le_of_ble_eq_true rfl) dX5_readParent_112 (fun r_112 σ_112 H locs hf M => ?_)
            exact hret _ _ _ _ _ _ dX5_readParent_115 M hf.1 hf.2
      · have hf := hff c1
        refine lv_iconst (v := 0) hx hb dX5_readParent_67 rfl ?_
        exact hret _ _ _ _ _ _ dX5_readParent_68 M hb_B0 hf
    · have hf := hff c1
      refine lv_aload_n hx hb dX5_readParent_42 rfl (lv_at hl 1 rfl) ?_
      refine lv_iconst (v := 4) hx hb dX5_readParent_43 rfl ?_
      refine hm_ci C M hl.1 (As := [.int 4]) (rest := []) (hk_bad l D dA o b hB 4 σ_35 hf) (n := 1) q2260 q2262 qs55 q140 q2263 (by decide +kernel) rfl ⟨Nat.le_of_ble_eq_true rfl, Nat.le_of_ble_eq_true rfl⟩ rfl (Nat.le_of_ble_eq_true rfl) dX5_readParent_44 (fun r_44 σ_44 H locs hf M => ?_)
      exact hret _ _ _ _ _ _ dX5_readParent_47 M hf.1 hf.2
  · have hf := hff c1
    refine lv_iconst (v := 0) hx hb dX5_readParent_19 rfl ?_
    exact hret _ _ _ _ _ _ dX5_readParent_20 M hb_B0 hf
def hw_readPerson  (σ : hm_S) (Q : Int32 → hm_S → Prop) : Prop := vp_in 0 100 ∧ ((¬ (hm_gA σ 7 0) = 12 → hw_next  σ (fun σ_20 => (hw_isName  σ_20 (fun r_24 σ_24 => ((¬ r_24 = 0 → hw_seek 12 (hm_gA σ 7 0) σ_24 (fun r_40 σ_40 => ((r_40 < 0 → vp_in (12 + (hm_gA σ 7 0)) 24 ∧ (hw_next  (hm_sL σ_40 9 (12 + (hm_gA σ 7 0)) (hm_gW σ_40)) (fun σ_66 => (hw_puts (3 + (hm_gA σ 7 0)) 0 99 σ_66 (fun r_76 σ_76 => ((r_76 = 0 → Q 0 σ_76) ∧ (¬ r_76 = 0 → hw_puts (15 + (hm_gA σ 7 0)) 0 999 σ_76 (fun r_91 σ_91 => ((¬ r_91 = 0 → vp_in 0 100 ∧ (vp_in 0 100 ∧ (Q 1 (hm_sA σ_91 7 0 ((hm_gA σ_91 7 0) + 1))))) ∧ (r_91 = 0 → Q 0 σ_91)))))))))) ∧ (¬ r_40 < 0 → hw_bad 3 σ_40 (fun r_48 σ_48 => (hb_B r_48 ∧ Q r_48 σ_48)))))) ∧ (r_24 = 0 → hw_bad 1 σ_24 (fun r_32 σ_32 => (hb_B r_32 ∧ Q r_32 σ_32)))))))) ∧ ((hm_gA σ 7 0) = 12 → hw_bad 4 σ (fun r_15 σ_15 => (hb_B r_15 ∧ Q r_15 σ_15))))
set_option maxHeartbeats 4000000 in
set_option maxRecDepth 100000 in
theorem hk_readPerson (l : Launch) (D : va_G) (dA : Nat → ClassId) (o : Nat) (b : Nat → Nat) (hB : hm_D dA o b)  (σ : hm_S) {Q : Int32 → hm_S → Prop} (hf : hw_readPerson  σ Q) : Met l yX5_readPerson (ws_ yX5_readPerson cX5_readPerson 2 (some .boolean)) (hb_R 4 88) (va_Pc [.ref o] (hm_U D dA o b σ)) (va_Qi Q (hm_U D dA o b) (hm_A o b)) 0 0 (hm_A o b) := by
  refine hm_Mz hB (LV := [(0, .ref o)]) (by decide) rfl (Nat.le_of_ble_eq_true rfl) (fun p e s m args below meth c ls QQ C M hl hret => ?_)
  have hx := C.1.1
  have hb := C.1.2.1
  refine lv_aload_n hx hb dX5_readPerson_0 rfl (lv_at hl 0 rfl) ?_
  refine hm_get C M 7 (by decide) q2074 (v := .ref (b 7)) rfl dX5_readPerson_1 ?_
  refine lv_iconst (v := 0) hx hb dX5_readPerson_4 rfl ?_
  obtain ⟨g1, hf⟩ := hf
  refine hm_ald7 C M g1 dX5_readPerson_5 ?_
  refine lv_istore_n (lv' := [(1, .int (hm_gA σ 7 0)), (0, .ref o)]) hx hb dX5_readPerson_6 rfl hl (by decide) rfl (fun ls hl => ?_)
  refine lv_iload_n hx hb dX5_readPerson_7 rfl (lv_at hl 0 rfl) ?_
  refine lv_bipush (v := 12) hx hb dX5_readPerson_8 rfl ?_
  obtain ⟨hft, hff⟩ := hf
  refine lv_icmp_ne (tgt := 19) hx hb dX5_readPerson_10 (by decide) (fun c1 => ?_) (fun c1 => ?_)
  · have hf := hft c1
    refine lv_aload_n hx hb dX5_readPerson_19 rfl (lv_at hl 1 rfl) ?_
    refine hm_cv C M hl.1 (As := []) (rest := []) (hk_next l D dA o b hB  σ hf) (n := 0) q2234 q2236 qs50 q140 q2237 (by decide +kernel) rfl ⟨Nat.le_of_ble_eq_true rfl, Nat.le_of_ble_eq_true rfl⟩ rfl (Nat.le_of_ble_eq_true rfl) dX5_readPerson_20 (fun σ_20 H locs hf M => ?_)
    refine lv_aload_n hx hb dX5_readPerson_23 rfl (lv_at hl 1 rfl) ?_
    refine hm_ci C M hl.1 (As := []) (rest := []) (hk_isName l D dA o b hB  σ_20 hf) (n := 0) q2264 q2266 qs56 q140 q2267 (by decide +kernel) rfl ⟨Nat.le_of_ble_eq_true rfl, Nat.le_of_ble_eq_true rfl⟩ rfl (Nat.le_of_ble_eq_true rfl) dX5_readPerson_24 (fun r_24 σ_24 H locs hf M => ?_)
    obtain ⟨hft, hff⟩ := hf
    refine lv_if_ne (tgt := 36) hx hb dX5_readPerson_27 (by decide) (fun c1 => ?_) (fun c1 => ?_)
    · have hf := hft c1
      refine lv_aload_n hx hb dX5_readPerson_36 rfl (lv_at hl 1 rfl) ?_
      refine lv_bipush (v := 12) hx hb dX5_readPerson_37 rfl ?_
      refine lv_iload_n hx hb dX5_readPerson_39 rfl (lv_at hl 0 rfl) ?_
      refine hm_ci C M hl.1 (As := [.int 12, .int (hm_gA σ 7 0)]) (rest := []) (hk_seek l D dA o b hB 12 (hm_gA σ 7 0) σ_24 hf) (n := 2) q2268 q2270 qs57 q140 q2271 (by decide +kernel) rfl ⟨Nat.le_of_ble_eq_true rfl, Nat.le_of_ble_eq_true rfl⟩ rfl (Nat.le_of_ble_eq_true rfl) dX5_readPerson_40 (fun r_40 σ_40 H locs hf M => ?_)
      obtain ⟨hft, hff⟩ := hf
      refine lv_if_lt (tgt := 52) hx hb dX5_readPerson_43 (by decide) (fun c1 => ?_) (fun c1 => ?_)
      · have hf := hft c1
        refine lv_aload_n hx hb dX5_readPerson_52 rfl (lv_at hl 1 rfl) ?_
        refine hm_get C M 9 (by decide) q2076 (v := .ref (b 9)) rfl dX5_readPerson_53 ?_
        refine lv_bipush (v := 12) hx hb dX5_readPerson_56 rfl ?_
        refine lv_iload_n hx hb dX5_readPerson_58 rfl (lv_at hl 0 rfl) ?_
        refine lv_iadd hx hb dX5_readPerson_59 ?_
        refine lv_aload_n hx hb dX5_readPerson_60 rfl (lv_at hl 1 rfl) ?_
        refine hm_get C M 17 (by decide) q2084 (v := .long (hm_gW σ_40)) rfl dX5_readPerson_61 ?_
        obtain ⟨g1, hf⟩ := hf
        refine hm_ast9 C M g1 dX5_readPerson_64 (fun H locs M => ?_)
        refine lv_aload_n hx hb dX5_readPerson_65 rfl (lv_at hl 1 rfl) ?_
        refine hm_cv C M hl.1 (As := []) (rest := []) (hk_next l D dA o b hB  (hm_sL σ_40 9 (12 + (hm_gA σ 7 0)) (hm_gW σ_40)) hf) (n := 0) q2234 q2236 qs50 q140 q2237 (by decide +kernel) rfl ⟨Nat.le_of_ble_eq_true rfl, Nat.le_of_ble_eq_true rfl⟩ rfl (Nat.le_of_ble_eq_true rfl) dX5_readPerson_66 (fun σ_66 H locs hf M => ?_)
        refine lv_aload_n hx hb dX5_readPerson_69 rfl (lv_at hl 1 rfl) ?_
        refine lv_iconst (v := 3) hx hb dX5_readPerson_70 rfl ?_
        refine lv_iload_n hx hb dX5_readPerson_71 rfl (lv_at hl 0 rfl) ?_
        refine lv_iadd hx hb dX5_readPerson_72 ?_
        refine lv_iconst (v := 0) hx hb dX5_readPerson_73 rfl ?_
        refine lv_bipush (v := 99) hx hb dX5_readPerson_74 rfl ?_
        refine hm_ci C M hl.1 (As := [.int (3 + (hm_gA σ 7 0)), .int 0, .int 99]) (rest := []) (hk_puts l D dA o b hB (3 + (hm_gA σ 7 0)) 0 99 σ_66 hf) (n := 3) q2272 q2274 qs58 q140 q2275 (by decide +kernel) rfl ⟨Nat.le_of_ble_eq_true rfl, Nat.le_of_ble_eq_true rfl⟩ rfl (Nat.le_of_ble_eq_true rfl) dX5_readPerson_76 (fun r_76 σ_76 H locs hf M => ?_)
        obtain ⟨hft, hff⟩ := hf
        refine lv_if_eq (tgt := 97) hx hb dX5_readPerson_79 (by decide) (fun c1 => ?_) (fun c1 => ?_)
        · have hf := hft c1
          refine lv_iconst (v := 0) hx hb dX5_readPerson_97 rfl ?_
          exact hret _ _ _ _ _ _ dX5_readPerson_98 M hb_B0 hf
        · have hf := hff c1
          refine lv_aload_n hx hb dX5_readPerson_82 rfl (lv_at hl 1 rfl) ?_
          refine lv_bipush (v := 15) hx hb dX5_readPerson_83 rfl ?_
          refine lv_iload_n hx hb dX5_readPerson_85 rfl (lv_at hl 0 rfl) ?_
          refine lv_iadd hx hb dX5_readPerson_86 ?_
          refine lv_iconst (v := 0) hx hb dX5_readPerson_87 rfl ?_
          refine lv_sipush (v := 999) hx hb dX5_readPerson_88 rfl ?_
          refine hm_ci C M hl.1 (As := [.int (15 + (hm_gA σ 7 0)), .int 0, .int 999]) (rest := []) (hk_puts l D dA o b hB (15 + (hm_gA σ 7 0)) 0 999 σ_76 hf) (n := 3) q2272 q2274 qs58 q140 q2275 (by decide +kernel) rfl ⟨Nat.le_of_ble_eq_true rfl, Nat.le_of_ble_eq_true rfl⟩ rfl (Nat.le_of_ble_eq_true rfl) dX5_readPerson_91 (fun r_91 σ_91 H locs hf M => ?_)
          obtain ⟨hft, hff⟩ := hf
          refine lv_if_ne (tgt := 99) hx hb dX5_readPerson_94 (by decide) (fun c1 => ?_) (fun c1 => ?_)
          · have hf := hft c1
            refine lv_aload_n hx hb dX5_readPerson_99 rfl (lv_at hl 1 rfl) ?_
            refine hm_get C M 7 (by decide) q2074 (v := .ref (b 7)) rfl dX5_readPerson_100 ?_
            refine lv_iconst (v := 0) hx hb dX5_readPerson_103 rfl ?_
            refine lv_dup2_11 hx hb dX5_readPerson_104 rfl rfl ?_
            obtain ⟨g1, hf⟩ := hf
            refine hm_ald7 C M g1 dX5_readPerson_105 ?_
            refine lv_iconst (v := 1) hx hb dX5_readPerson_106 rfl ?_
            refine lv_iadd hx hb dX5_readPerson_107 ?_
            obtain ⟨g1, hf⟩ := hf
            refine hm_ast7 C M g1 dX5_readPerson_108 (fun H locs M => ?_)
            refine lv_iconst (v := 1) hx hb dX5_readPerson_109 rfl ?_
            exact hret _ _ _ _ _ _ dX5_readPerson_110 M hb_B1 hf
          · have hf := hff c1
            refine lv_iconst (v := 0) hx hb dX5_readPerson_97 rfl ?_
            exact hret _ _ _ _ _ _ dX5_readPerson_98 M hb_B0 hf
      · have hf := hff c1
        refine lv_aload_n hx hb dX5_readPerson_46 rfl (lv_at hl 1 rfl) ?_
        refine lv_iconst (v := 3) hx hb dX5_readPerson_47 rfl ?_
        refine hm_ci C M hl.1 (As := [.int 3]) (rest := []) (hk_bad l D dA o b hB 3 σ_40 hf) (n := 1) q2260 q2262 qs55 q140 q2263 (by decide +kernel) rfl ⟨Nat.le_of_ble_eq_true rfl, Nat.le_of_ble_eq_true rfl⟩ rfl (Nat.le_of_ble_eq_true rfl) dX5_readPerson_48 (fun r_48 σ_48 H locs hf M => ?_)
        exact hret _ _ _ _ _ _ dX5_readPerson_51 M hf.1 hf.2
    · have hf := hff c1
      refine lv_aload_n hx hb dX5_readPerson_30 rfl (lv_at hl 1 rfl) ?_
      refine lv_iconst (v := 1) hx hb dX5_readPerson_31 rfl ?_
      refine hm_ci C M hl.1 (As := [.int 1]) (rest := []) (hk_bad l D dA o b hB 1 σ_24 hf) (n := 1) q2260 q2262 qs55 q140 q2263 (by decide +kernel) rfl ⟨Nat.le_of_ble_eq_true rfl, Nat.le_of_ble_eq_true rfl⟩ rfl (Nat.le_of_ble_eq_true rfl) dX5_readPerson_32 (fun r_32 σ_32 H locs hf M => ?_)
      exact hret _ _ _ _ _ _ dX5_readPerson_35 M hf.1 hf.2
  · have hf := hff c1
    refine lv_aload_n hx hb dX5_readPerson_13 rfl (lv_at hl 1 rfl) ?_
    refine lv_iconst (v := 4) hx hb dX5_readPerson_14 rfl ?_
    refine hm_ci C M hl.1 (As := [.int 4]) (rest := []) (hk_bad l D dA o b hB 4 σ hf) (n := 1) q2260 q2262 qs55 q140 q2263 (by decide +kernel) rfl ⟨Nat.le_of_ble_eq_true rfl, Nat.le_of_ble_eq_true rfl⟩ rfl (Nat.le_of_ble_eq_true rfl) dX5_readPerson_15 (fun r_15 σ_15 H locs hf M => ?_)
    exact hret _ _ _ _ _ _ dX5_readPerson_18 M hf.1 hf.2
def hw_readWed  (σ : hm_S) (Q : Int32 → hm_S → Prop) : Prop := hw_next  σ (fun σ_1 => (vp_in 0 100 ∧ (hw_looksAt 12 (hm_gA σ_1 7 0) σ_1 (fun r_13 σ_13 => ((¬ r_13 = 0 → vp_in (39 + (hm_gI σ_13 18)) 100 ∧ (((hm_gA σ_13 7 (39 + (hm_gI σ_13 18))) ≤ 0 → hw_next  σ_13 (fun σ_45 => (vp_in 0 100 ∧ (hw_looksAt 12 (hm_gA σ_45 7 0) σ_45 (fun r_57 σ_57 => ((¬ r_57 = 0 → ((hm_gI σ_57 18) = (hm_gI σ_13 18) → hw_bad 3 σ_57 (fun r_90 σ_90 => (hb_B r_90 ∧ Q r_90 σ_90))) ∧ (¬ (hm_gI σ_57 18) = (hm_gI σ_13 18) → vp_in (39 + (hm_gI σ_57 18)) 100 ∧ (((hm_gA σ_57 7 (39 + (hm_gI σ_57 18))) ≤ 0 → vp_in (39 + (hm_gI σ_13 18)) 100 ∧ (vp_in (39 + (hm_gI (hm_sA σ_57 7 (39 + (hm_gI σ_13 18)) ((hm_gI σ_57 18) + 1)) 18)) 100 ∧ (hw_next  (hm_sA (hm_sA σ_57 7 (39 + (hm_gI σ_13 18)) ((hm_gI σ_57 18) + 1)) 7 (39 + (hm_gI (hm_sA σ_57 7 (39 + (hm_gI σ_13 18)) ((hm_gI σ_57 18) + 1)) 18)) ((hm_gI σ_13 18) + 1)) (fun σ_125 => (Q 1 σ_125))))) ∧ (¬ (hm_gA σ_57 7 (39 + (hm_gI σ_57 18))) ≤ 0 → hw_bad 3 σ_57 (fun r_90 σ_90 => (hb_B r_90 ∧ Q r_90 σ_90)))))) ∧ (r_57 = 0 → Q 0 σ_57))))))) ∧ (¬ (hm_gA σ_13 7 (39 + (hm_gI σ_13 18))) ≤ 0 → hw_bad 3 σ_13 (fun r_40 σ_40 => (hb_B r_40 ∧ Q r_40 σ_40))))) ∧ (r_13 = 0 → Q 0 σ_13))))))
set_option maxHeartbeats 4000000 in
set_option maxRecDepth 100000 in
theorem hk_readWed (l : Launch) (D : va_G) (dA : Nat → ClassId) (o : Nat) (b : Nat → Nat) (hB : hm_D dA o b)  (σ : hm_S) {Q : Int32 → hm_S → Prop} (hf : hw_readWed  σ Q) : Met l yX5_readWed (ws_ yX5_readWed cX5_readWed 2 (some .boolean)) (hb_R 2 45) (va_Pc [.ref o] (hm_U D dA o b σ)) (va_Qi Q (hm_U D dA o b) (hm_A o b)) 0 0 (hm_A o b) := by
  refine hm_Mz hB (LV := [(0, .ref o)]) (by decide) rfl (Nat.le_of_ble_eq_true rfl) (fun p e s m args below meth c ls QQ C M hl hret => ?_)
  have hx := C.1.1
  have hb := C.1.2.1
  refine lv_aload_n hx hb dX5_readWed_0 rfl (lv_at hl 0 rfl) ?_
  refine hm_cv C M hl.1 (As := []) (rest := []) (hk_next l D dA o b hB  σ hf) (n := 0) q2234 q2236 qs50 q140 q2237 (by decide +kernel) rfl ⟨Nat.le_of_ble_eq_true rfl, Nat.le_of_ble_eq_true rfl⟩ rfl (Nat.le_of_ble_eq_true rfl) dX5_readWed_1 (fun σ_1 H locs hf M => ?_)
  refine lv_aload_n hx hb dX5_readWed_4 rfl (lv_at hl 0 rfl) ?_
  refine lv_bipush (v := 12) hx hb dX5_readWed_5 rfl ?_
  refine lv_aload_n hx hb dX5_readWed_7 rfl (lv_at hl 0 rfl) ?_
  refine hm_get C M 7 (by decide) q2074 (v := .ref (b 7)) rfl dX5_readWed_8 ?_
  refine lv_iconst (v := 0) hx hb dX5_readWed_11 rfl ?_
  obtain ⟨g1, hf⟩ := hf
  refine hm_ald7 C M g1 dX5_readWed_12 ?_
  refine hm_ci C M hl.1 (As := [.int 12, .int (hm_gA σ_1 7 0)]) (rest := []) (hk_looksAt l D dA o b hB 12 (hm_gA σ_1 7 0) σ_1 hf) (n := 2) q2287 q2289 qs61 q140 q2290 (by decide +kernel) rfl ⟨Nat.le_of_ble_eq_true rfl, Nat.le_of_ble_eq_true rfl⟩ rfl (Nat.le_of_ble_eq_true rfl) dX5_readWed_13 (fun r_13 σ_13 H locs hf M => ?_)
  obtain ⟨hft, hff⟩ := hf
  refine lv_if_ne (tgt := 21) hx hb dX5_readWed_16 (by decide) (fun c1 => ?_) (fun c1 => ?_)
  · have hf := hft c1
    refine lv_aload_n hx hb dX5_readWed_21 rfl (lv_at hl 0 rfl) ?_
    refine hm_get C M 18 (by decide) q2085 (v := .int (hm_gI σ_13 18)) rfl dX5_readWed_22 ?_
    refine lv_istore_n (lv' := [(1, .int (hm_gI σ_13 18)), (0, .ref o)]) hx hb dX5_readWed_25 rfl hl (by decide) rfl (fun ls hl => ?_)
    refine lv_aload_n hx hb dX5_readWed_26 rfl (lv_at hl 1 rfl) ?_
    refine hm_get C M 7 (by decide) q2074 (v := .ref (b 7)) rfl dX5_readWed_27 ?_
    refine lv_bipush (v := 39) hx hb dX5_readWed_30 rfl ?_
    refine lv_iload_n hx hb dX5_readWed_32 rfl (lv_at hl 0 rfl) ?_
    refine lv_iadd hx hb dX5_readWed_33 ?_
    obtain ⟨g1, hf⟩ := hf
    refine hm_ald7 C M g1 dX5_readWed_34 ?_
    obtain ⟨hft, hff⟩ := hf
    refine lv_if_le (tgt := 44) hx hb dX5_readWed_35 (by decide) (fun c1 => ?_) (fun c1 => ?_)
    · have hf := hft c1
      refine lv_aload_n hx hb dX5_readWed_44 rfl (lv_at hl 1 rfl) ?_
      refine hm_cv C M hl.1 (As := []) (rest := []) (hk_next l D dA o b hB  σ_13 hf) (n := 0) q2234 q2236 qs50 q140 q2237 (by decide +kernel) rfl ⟨Nat.le_of_ble_eq_true rfl, Nat.le_of_ble_eq_true rfl⟩ rfl (Nat.le_of_ble_eq_true rfl) dX5_readWed_45 (fun σ_45 H locs hf M => ?_)
      refine lv_aload_n hx hb dX5_readWed_48 rfl (lv_at hl 1 rfl) ?_
      refine lv_bipush (v := 12) hx hb dX5_readWed_49 rfl ?_
      refine lv_aload_n hx hb dX5_readWed_51 rfl (lv_at hl 1 rfl) ?_
      refine hm_get C M 7 (by decide) q2074 (v := .ref (b 7)) rfl dX5_readWed_52 ?_
      refine lv_iconst (v := 0) hx hb dX5_readWed_55 rfl ?_
      obtain ⟨g1, hf⟩ := hf
      refine hm_ald7 C M g1 dX5_readWed_56 ?_
      refine hm_ci C M hl.1 (As := [.int 12, .int (hm_gA σ_45 7 0)]) (rest := []) (hk_looksAt l D dA o b hB 12 (hm_gA σ_45 7 0) σ_45 hf) (n := 2) q2287 q2289 qs61 q140 q2290 (by decide +kernel) rfl ⟨Nat.le_of_ble_eq_true rfl, Nat.le_of_ble_eq_true rfl⟩ rfl (Nat.le_of_ble_eq_true rfl) dX5_readWed_57 (fun r_57 σ_57 H locs hf M => ?_)
      obtain ⟨hft, hff⟩ := hf
      refine lv_if_ne (tgt := 65) hx hb dX5_readWed_60 (by decide) (fun c1 => ?_) (fun c1 => ?_)
      · have hf := hft c1
        refine lv_aload_n hx hb dX5_readWed_65 rfl (lv_at hl 1 rfl) ?_
        refine hm_get C M 18 (by decide) q2085 (v := .int (hm_gI σ_57 18)) rfl dX5_readWed_66 ?_
        refine lv_iload_n hx hb dX5_readWed_69 rfl (lv_at hl 0 rfl) ?_
        obtain ⟨hft, hff⟩ := hf
        refine lv_icmp_eq (tgt := 88) hx hb dX5_readWed_70 (by decide) (fun c1 => ?_) (fun c1 => ?_)
        · have hf := hft c1
          refine lv_aload_n hx hb dX5_readWed_88 rfl (lv_at hl 1 rfl) ?_
          refine lv_iconst (v := 3) hx hb dX5_readWed_89 rfl ?_
          refine hm_ci C M hl.1 (As := [.int 3]) (rest := []) (hk_bad l D dA o b hB 3 σ_57 hf) (n := 1) q2260 q2262 qs55 q140 q2263 (by decide +kernel) rfl ⟨Nat.le_of_ble_eq_true rfl, Nat.le_of_ble_eq_true rfl⟩ rfl (Nat.le_of_ble_eq_true rfl) dX5_readWed_90 (fun r_90 σ_90 H locs hf M => ?_)
          exact hret _ _ _ _ _ _ dX5_readWed_93 M hf.1 hf.2
        · have hf := hff c1
          refine lv_aload_n hx hb dX5_readWed_73 rfl (lv_at hl 1 rfl) ?_
          refine hm_get C M 7 (by decide) q2074 (v := .ref (b 7)) rfl dX5_readWed_74 ?_
          refine lv_bipush (v := 39) hx hb dX5_readWed_77 rfl ?_
          refine lv_aload_n hx hb dX5_readWed_79 rfl (lv_at hl 1 rfl) ?_
          refine hm_get C M 18 (by decide) q2085 (v := .int (hm_gI σ_57 18)) rfl dX5_readWed_80 ?_
          refine lv_iadd hx hb dX5_readWed_83 ?_
          obtain ⟨g1, hf⟩ := hf
          refine hm_ald7 C M g1 dX5_readWed_84 ?_
          obtain ⟨hft, hff⟩ := hf
          refine lv_if_le (tgt := 94) hx hb dX5_readWed_85 (by decide) (fun c1 => ?_) (fun c1 => ?_)
          · have hf := hft c1
            refine lv_aload_n hx hb dX5_readWed_94 rfl (lv_at hl 1 rfl) ?_
            refine hm_get C M 7 (by decide) q2074 (v := .ref (b 7)) rfl dX5_readWed_95 ?_
            refine lv_bipush (v := 39) hx hb dX5_readWed_98 rfl ?_
            refine lv_iload_n hx hb dX5_readWed_100 rfl (lv_at hl 0 rfl) ?_
            refine lv_iadd hx hb dX5_readWed_101 ?_
            refine lv_aload_n hx hb dX5_readWed_102 rfl (lv_at hl 1 rfl) ?_
            refine hm_get C M 18 (by decide) q2085 (v := .int (hm_gI σ_57 18)) rfl dX5_readWed_103 ?_
            refine lv_iconst (v := 1) hx hb dX5_readWed_106 rfl ?_
            refine lv_iadd hx hb dX5_readWed_107 ?_
            obtain ⟨g1, hf⟩ := hf
            refine hm_ast7 C M g1 dX5_readWed_108 (fun H locs M => ?_)
            refine lv_aload_n hx hb dX5_readWed_109 rfl (lv_at hl 1 rfl) ?_
            refine hm_get C M 7 (by decide) q2074 (v := .ref (b 7)) rfl dX5_readWed_110 ?_
            refine lv_bipush (v := 39) hx hb dX5_readWed_113 rfl ?_
            refine lv_aload_n hx hb dX5_readWed_115 rfl (lv_at hl 1 rfl) ?_
            refine hm_get C M 18 (by decide) q2085 (v := .int (hm_gI (hm_sA σ_57 7 (39 + (hm_gI σ_13 18)) ((hm_gI σ_57 18) + 1)) 18)) rfl dX5_readWed_116 ?_
            refine lv_iadd hx hb dX5_readWed_119 ?_
            refine lv_iload_n hx hb dX5_readWed_120 rfl (lv_at hl 0 rfl) ?_
            refine lv_iconst (v := 1) hx hb dX5_readWed_121 rfl ?_
            refine lv_iadd hx hb dX5_readWed_122 ?_
            obtain ⟨g1, hf⟩ := hf
            refine hm_ast7 C M g1 dX5_readWed_123 (fun H locs M => ?_)
            refine lv_aload_n hx hb dX5_readWed_124 rfl (lv_at hl 1 rfl) ?_
            refine hm_cv C M hl.1 (As := []) (rest := []) (hk_next l D dA o b hB  (hm_sA (hm_sA σ_57 7 (39 + (hm_gI σ_13 18)) ((hm_gI σ_57 18) + 1)) 7 (39 + (hm_gI (hm_sA σ_57 7 (39 + (hm_gI σ_13 18)) ((hm_gI σ_57 18) + 1)) 18)) ((hm_gI σ_13 18) + 1)) hf) (n := 0) q2234 q2236 qs50 q140 q2237 (by decide +kernel) rfl ⟨Nat.le_of_ble_eq_true rfl, Nat.le_of_ble_eq_true rfl⟩ rfl (Nat.le_of_ble_eq_true rfl) dX5_readWed_125 (fun σ_125 H locs hf M => ?_)
            refine lv_iconst (v := 1) hx hb dX5_readWed_128 rfl ?_
            exact hret _ _ _ _ _ _ dX5_readWed_129 M hb_B1 hf
          · have hf := hff c1
            refine lv_aload_n hx hb dX5_readWed_88 rfl (lv_at hl 1 rfl) ?_
            refine lv_iconst (v := 3) hx hb dX5_readWed_89 rfl ?_
            refine hm_ci C M hl.1 (As := [.int 3]) (rest := []) (hk_bad l D dA o b hB 3 σ_57 hf) (n := 1) q2260 q2262 qs55 q140 q2263 (by decide +kernel) rfl ⟨Nat.le_of_ble_eq_true rfl, Nat.le_of_ble_eq_true rfl⟩ rfl (Nat.le_of_ble_eq_true rfl) dX5_readWed_90 (fun r_90 σ_90 H locs hf M => ?_)
            exact hret _ _ _ _ _ _ dX5_readWed_93 M hf.1 hf.2
      · have hf := hff c1
        refine lv_iconst (v := 0) hx hb dX5_readWed_63 rfl ?_
        exact hret _ _ _ _ _ _ dX5_readWed_64 M hb_B0 hf
    · have hf := hff c1
      refine lv_aload_n hx hb dX5_readWed_38 rfl (lv_at hl 1 rfl) ?_
      refine lv_iconst (v := 3) hx hb dX5_readWed_39 rfl ?_
      refine hm_ci C M hl.1 (As := [.int 3]) (rest := []) (hk_bad l D dA o b hB 3 σ_13 hf) (n := 1) q2260 q2262 qs55 q140 q2263 (by decide +kernel) rfl ⟨Nat.le_of_ble_eq_true rfl, Nat.le_of_ble_eq_true rfl⟩ rfl (Nat.le_of_ble_eq_true rfl) dX5_readWed_40 (fun r_40 σ_40 H locs hf M => ?_)
      exact hret _ _ _ _ _ _ dX5_readWed_43 M hf.1 hf.2
  · have hf := hff c1
    refine lv_iconst (v := 0) hx hb dX5_readWed_19 rfl ?_
    exact hret _ _ _ _ _ _ dX5_readWed_20 M hb_B0 hf
def hw_takesName (a1 : Int32) (a2 : Int32) (σ : hm_S) (Q : Int32 → hm_S → Prop) : Prop := hw_looksAt a1 a2 σ (fun r_3 σ_3 => ((¬ r_3 = 0 → hw_next  σ_3 (fun σ_12 => (Q 1 σ_12))) ∧ (r_3 = 0 → Q 0 σ_3)))
set_option maxHeartbeats 4000000 in
set_option maxRecDepth 100000 in
theorem hk_takesName (l : Launch) (D : va_G) (dA : Nat → ClassId) (o : Nat) (b : Nat → Nat) (hB : hm_D dA o b) (a1 : Int32) (a2 : Int32) (σ : hm_S) {Q : Int32 → hm_S → Prop} (hf : hw_takesName a1 a2 σ Q) : Met l yX5_takesName (ws_ yX5_takesName cX5_takesName 3 (some .boolean)) (hb_R 2 45) (va_Pc [.ref o, .int a1, .int a2] (hm_U D dA o b σ)) (va_Qi Q (hm_U D dA o b) (hm_A o b)) 0 0 (hm_A o b) := by
  refine hm_Mz hB (LV := [(0, .ref o), (1, .int a1), (2, .int a2)]) (by decide) rfl (Nat.le_of_ble_eq_true rfl) (fun p e s m args below meth c ls QQ C M hl hret => ?_)
  have hx := C.1.1
  have hb := C.1.2.1
  refine lv_aload_n hx hb dX5_takesName_0 rfl (lv_at hl 0 rfl) ?_
  refine lv_iload_n hx hb dX5_takesName_1 rfl (lv_at hl 1 rfl) ?_
  refine lv_iload_n hx hb dX5_takesName_2 rfl (lv_at hl 2 rfl) ?_
  refine hm_ci C M hl.1 (As := [.int a1, .int a2]) (rest := []) (hk_looksAt l D dA o b hB a1 a2 σ hf) (n := 2) q2287 q2289 qs61 q140 q2290 (by decide +kernel) rfl ⟨Nat.le_of_ble_eq_true rfl, Nat.le_of_ble_eq_true rfl⟩ rfl (Nat.le_of_ble_eq_true rfl) dX5_takesName_3 (fun r_3 σ_3 H locs hf M => ?_)
  obtain ⟨hft, hff⟩ := hf
  refine lv_if_ne (tgt := 11) hx hb dX5_takesName_6 (by decide) (fun c1 => ?_) (fun c1 => ?_)
  · have hf := hft c1
    refine lv_aload_n hx hb dX5_takesName_11 rfl (lv_at hl 0 rfl) ?_
    refine hm_cv C M hl.1 (As := []) (rest := []) (hk_next l D dA o b hB  σ_3 hf) (n := 0) q2234 q2236 qs50 q140 q2237 (by decide +kernel) rfl ⟨Nat.le_of_ble_eq_true rfl, Nat.le_of_ble_eq_true rfl⟩ rfl (Nat.le_of_ble_eq_true rfl) dX5_takesName_12 (fun σ_12 H locs hf M => ?_)
    refine lv_iconst (v := 1) hx hb dX5_takesName_15 rfl ?_
    exact hret _ _ _ _ _ _ dX5_takesName_16 M hb_B1 hf
  · have hf := hff c1
    refine lv_iconst (v := 0) hx hb dX5_takesName_9 rfl ?_
    exact hret _ _ _ _ _ _ dX5_takesName_10 M hb_B0 hf
def hw_takesOther (a1 : Int32) (a2 : Int32) (σ : hm_S) (Q : Int32 → hm_S → Prop) : Prop := hw_looksAt a1 a2 σ (fun r_8 σ_8 => ((¬ r_8 = 0 → (¬ (hm_gI σ_8 18) = (hm_gI σ 18) → hw_next  σ_8 (fun σ_31 => (Q 1 σ_31))) ∧ ((hm_gI σ_8 18) = (hm_gI σ 18) → hw_bad 3 σ_8 (fun r_26 σ_26 => (hb_B r_26 ∧ Q r_26 σ_26)))) ∧ (r_8 = 0 → Q 0 σ_8)))
set_option maxHeartbeats 4000000 in
set_option maxRecDepth 100000 in
theorem hk_takesOther (l : Launch) (D : va_G) (dA : Nat → ClassId) (o : Nat) (b : Nat → Nat) (hB : hm_D dA o b) (a1 : Int32) (a2 : Int32) (σ : hm_S) {Q : Int32 → hm_S → Prop} (hf : hw_takesOther a1 a2 σ Q) : Met l yX5_takesOther (ws_ yX5_takesOther cX5_takesOther 4 (some .boolean)) (hb_R 2 45) (va_Pc [.ref o, .int a1, .int a2] (hm_U D dA o b σ)) (va_Qi Q (hm_U D dA o b) (hm_A o b)) 0 0 (hm_A o b) := by
  refine hm_Mz hB (LV := [(0, .ref o), (1, .int a1), (2, .int a2)]) (by decide) rfl (Nat.le_of_ble_eq_true rfl) (fun p e s m args below meth c ls QQ C M hl hret => ?_)
  have hx := C.1.1
  have hb := C.1.2.1
  refine lv_aload_n hx hb dX5_takesOther_0 rfl (lv_at hl 0 rfl) ?_
  refine hm_get C M 18 (by decide) q2085 (v := .int (hm_gI σ 18)) rfl dX5_takesOther_1 ?_
  refine lv_istore_n (lv' := [(3, .int (hm_gI σ 18)), (0, .ref o), (1, .int a1), (2, .int a2)]) hx hb dX5_takesOther_4 rfl hl (by decide) rfl (fun ls hl => ?_)
  refine lv_aload_n hx hb dX5_takesOther_5 rfl (lv_at hl 1 rfl) ?_
  refine lv_iload_n hx hb dX5_takesOther_6 rfl (lv_at hl 2 rfl) ?_
  refine lv_iload_n hx hb dX5_takesOther_7 rfl (lv_at hl 3 rfl) ?_
  refine hm_ci C M hl.1 (As := [.int a1, .int a2]) (rest := []) (hk_looksAt l D dA o b hB a1 a2 σ hf) (n := 2) q2287 q2289 qs61 q140 q2290 (by decide +kernel) rfl ⟨Nat.le_of_ble_eq_true rfl, Nat.le_of_ble_eq_true rfl⟩ rfl (Nat.le_of_ble_eq_true rfl) dX5_takesOther_8 (fun r_8 σ_8 H locs hf M => ?_)
  obtain ⟨hft, hff⟩ := hf
  refine lv_if_ne (tgt := 16) hx hb dX5_takesOther_11 (by decide) (fun c1 => ?_) (fun c1 => ?_)
  · have hf := hft c1
    refine lv_aload_n hx hb dX5_takesOther_16 rfl (lv_at hl 1 rfl) ?_
    refine hm_get C M 18 (by decide) q2085 (v := .int (hm_gI σ_8 18)) rfl dX5_takesOther_17 ?_
    refine lv_iload_n hx hb dX5_takesOther_20 rfl (lv_at hl 0 rfl) ?_
    obtain ⟨hft, hff⟩ := hf
    refine lv_icmp_ne (tgt := 30) hx hb dX5_takesOther_21 (by decide) (fun c1 => ?_) (fun c1 => ?_)
    · have hf := hft c1
      refine lv_aload_n hx hb dX5_takesOther_30 rfl (lv_at hl 1 rfl) ?_
      refine hm_cv C M hl.1 (As := []) (rest := []) (hk_next l D dA o b hB  σ_8 hf) (n := 0) q2234 q2236 qs50 q140 q2237 (by decide +kernel) rfl ⟨Nat.le_of_ble_eq_true rfl, Nat.le_of_ble_eq_true rfl⟩ rfl (Nat.le_of_ble_eq_true rfl) dX5_takesOther_31 (fun σ_31 H locs hf M => ?_)
      refine lv_iconst (v := 1) hx hb dX5_takesOther_34 rfl ?_
      exact hret _ _ _ _ _ _ dX5_takesOther_35 M hb_B1 hf
    · have hf := hff c1
      refine lv_aload_n hx hb dX5_takesOther_24 rfl (lv_at hl 1 rfl) ?_
      refine lv_iconst (v := 3) hx hb dX5_takesOther_25 rfl ?_
      refine hm_ci C M hl.1 (As := [.int 3]) (rest := []) (hk_bad l D dA o b hB 3 σ_8 hf) (n := 1) q2260 q2262 qs55 q140 q2263 (by decide +kernel) rfl ⟨Nat.le_of_ble_eq_true rfl, Nat.le_of_ble_eq_true rfl⟩ rfl (Nat.le_of_ble_eq_true rfl) dX5_takesOther_26 (fun r_26 σ_26 H locs hf M => ?_)
      exact hret _ _ _ _ _ _ dX5_takesOther_29 M hf.1 hf.2
  · have hf := hff c1
    refine lv_iconst (v := 0) hx hb dX5_takesOther_14 rfl ?_
    exact hret _ _ _ _ _ _ dX5_takesOther_15 M hb_B0 hf
def hw_readWill  (σ : hm_S) (Q : Int32 → hm_S → Prop) : Prop := vp_in 63 100 ∧ ((¬ (hm_gA σ 7 63) = 12 → hw_next  σ (fun σ_21 => (vp_in 0 100 ∧ (hw_takesName 12 (hm_gA σ_21 7 0) σ_21 (fun r_33 σ_33 => ((¬ r_33 = 0 → vp_in (64 + (hm_gA σ 7 63)) 100 ∧ (vp_in 0 100 ∧ (hw_takesOther 12 (hm_gA (hm_sA σ_33 7 (64 + (hm_gA σ 7 63)) (hm_gI σ_33 18)) 7 0) (hm_sA σ_33 7 (64 + (hm_gA σ 7 63)) (hm_gI σ_33 18)) (fun r_63 σ_63 => ((¬ r_63 = 0 → vp_in (76 + (hm_gA σ 7 63)) 100 ∧ (hw_puts (88 + (hm_gA σ 7 63)) 1 999 (hm_sA σ_63 7 (76 + (hm_gA σ 7 63)) (hm_gI σ_63 18)) (fun r_93 σ_93 => ((¬ r_93 = 0 → vp_in 63 100 ∧ (vp_in 63 100 ∧ (Q 1 (hm_sA σ_93 7 63 ((hm_gA σ_93 7 63) + 1))))) ∧ (r_93 = 0 → Q 0 σ_93))))) ∧ (r_63 = 0 → Q 0 σ_63)))))) ∧ (r_33 = 0 → Q 0 σ_33))))))) ∧ ((hm_gA σ 7 63) = 12 → hw_bad 4 σ (fun r_16 σ_16 => (hb_B r_16 ∧ Q r_16 σ_16))))
set_option maxHeartbeats 4000000 in
set_option maxRecDepth 100000 in
theorem hk_readWill (l : Launch) (D : va_G) (dA : Nat → ClassId) (o : Nat) (b : Nat → Nat) (hB : hm_D dA o b)  (σ : hm_S) {Q : Int32 → hm_S → Prop} (hf : hw_readWill  σ Q) : Met l yX5_readWill (ws_ yX5_readWill cX5_readWill 2 (some .boolean)) (hb_R 4 88) (va_Pc [.ref o] (hm_U D dA o b σ)) (va_Qi Q (hm_U D dA o b) (hm_A o b)) 0 0 (hm_A o b) := by
  refine hm_Mz hB (LV := [(0, .ref o)]) (by decide) rfl (Nat.le_of_ble_eq_true rfl) (fun p e s m args below meth c ls QQ C M hl hret => ?_)
  have hx := C.1.1
  have hb := C.1.2.1
  refine lv_aload_n hx hb dX5_readWill_0 rfl (lv_at hl 0 rfl) ?_
  refine hm_get C M 7 (by decide) q2074 (v := .ref (b 7)) rfl dX5_readWill_1 ?_
  refine lv_bipush (v := 63) hx hb dX5_readWill_4 rfl ?_
  obtain ⟨g1, hf⟩ := hf
  refine hm_ald7 C M g1 dX5_readWill_6 ?_
  refine lv_istore_n (lv' := [(1, .int (hm_gA σ 7 63)), (0, .ref o)]) hx hb dX5_readWill_7 rfl hl (by decide) rfl (fun ls hl => ?_)
  refine lv_iload_n hx hb dX5_readWill_8 rfl (lv_at hl 0 rfl) ?_
  refine lv_bipush (v := 12) hx hb dX5_readWill_9 rfl ?_
  obtain ⟨hft, hff⟩ := hf
  refine lv_icmp_ne (tgt := 20) hx hb dX5_readWill_11 (by decide) (fun c1 => ?_) (fun c1 => ?_)
  · have hf := hft c1
    refine lv_aload_n hx hb dX5_readWill_20 rfl (lv_at hl 1 rfl) ?_
    refine hm_cv C M hl.1 (As := []) (rest := []) (hk_next l D dA o b hB  σ hf) (n := 0) q2234 q2236 qs50 q140 q2237 (by decide +kernel) rfl ⟨Nat.le_of_ble_eq_true rfl, Nat.le_of_ble_eq_true rfl⟩ rfl (Nat.le_of_ble_eq_true rfl) dX5_readWill_21 (fun σ_21 H locs hf M => ?_)
    refine lv_aload_n hx hb dX5_readWill_24 rfl (lv_at hl 1 rfl) ?_
    refine lv_bipush (v := 12) hx hb dX5_readWill_25 rfl ?_
    refine lv_aload_n hx hb dX5_readWill_27 rfl (lv_at hl 1 rfl) ?_
    refine hm_get C M 7 (by decide) q2074 (v := .ref (b 7)) rfl dX5_readWill_28 ?_
    refine lv_iconst (v := 0) hx hb dX5_readWill_31 rfl ?_
    obtain ⟨g1, hf⟩ := hf
    refine hm_ald7 C M g1 dX5_readWill_32 ?_
    refine hm_ci C M hl.1 (As := [.int 12, .int (hm_gA σ_21 7 0)]) (rest := []) (hk_takesName l D dA o b hB 12 (hm_gA σ_21 7 0) σ_21 hf) (n := 2) q2305 q2307 qs64 q140 q2308 (by decide +kernel) rfl ⟨Nat.le_of_ble_eq_true rfl, Nat.le_of_ble_eq_true rfl⟩ rfl (Nat.le_of_ble_eq_true rfl) dX5_readWill_33 (fun r_33 σ_33 H locs hf M => ?_)
    obtain ⟨hft, hff⟩ := hf
    refine lv_if_ne (tgt := 41) hx hb dX5_readWill_36 (by decide) (fun c1 => ?_) (fun c1 => ?_)
    · have hf := hft c1
      refine lv_aload_n hx hb dX5_readWill_41 rfl (lv_at hl 1 rfl) ?_
      refine hm_get C M 7 (by decide) q2074 (v := .ref (b 7)) rfl dX5_readWill_42 ?_
      refine lv_bipush (v := 64) hx hb dX5_readWill_45 rfl ?_
      refine lv_iload_n hx hb dX5_readWill_47 rfl (lv_at hl 0 rfl) ?_
      refine lv_iadd hx hb dX5_readWill_48 ?_
      refine lv_aload_n hx hb dX5_readWill_49 rfl (lv_at hl 1 rfl) ?_
      refine hm_get C M 18 (by decide) q2085 (v := .int (hm_gI σ_33 18)) rfl dX5_readWill_50 ?_
      obtain ⟨g1, hf⟩ := hf
      refine hm_ast7 C M g1 dX5_readWill_53 (fun H locs M => ?_)
      refine lv_aload_n hx hb dX5_readWill_54 rfl (lv_at hl 1 rfl) ?_
      refine lv_bipush (v := 12) hx hb dX5_readWill_55 rfl ?_
      refine lv_aload_n hx hb dX5_readWill_57 rfl (lv_at hl 1 rfl) ?_
      refine hm_get C M 7 (by decide) q2074 (v := .ref (b 7)) rfl dX5_readWill_58 ?_
      refine lv_iconst (v := 0) hx hb dX5_readWill_61 rfl ?_
      obtain ⟨g1, hf⟩ := hf
      refine hm_ald7 C M g1 dX5_readWill_62 ?_
      refine hm_ci C M hl.1 (As := [.int 12, .int (hm_gA (hm_sA σ_33 7 (64 + (hm_gA σ 7 63)) (hm_gI σ_33 18)) 7 0)]) (rest := []) (hk_takesOther l D dA o b hB 12 (hm_gA (hm_sA σ_33 7 (64 + (hm_gA σ 7 63)) (hm_gI σ_33 18)) 7 0) (hm_sA σ_33 7 (64 + (hm_gA σ 7 63)) (hm_gI σ_33 18)) hf) (n := 2) q2309 q2311 qs65 q140 q2312 (by decide +kernel) rfl ⟨Nat.le_of_ble_eq_true rfl, Nat.le_of_ble_eq_true rfl⟩ rfl (Nat.le_of_ble_eq_true rfl) dX5_readWill_63 (fun r_63 σ_63 H locs hf M => ?_)
      obtain ⟨hft, hff⟩ := hf
      refine lv_if_ne (tgt := 71) hx hb dX5_readWill_66 (by decide) (fun c1 => ?_) (fun c1 => ?_)
      · have hf := hft c1
        refine lv_aload_n hx hb dX5_readWill_71 rfl (lv_at hl 1 rfl) ?_
        refine hm_get C M 7 (by decide) q2074 (v := .ref (b 7)) rfl dX5_readWill_72 ?_
        refine lv_bipush (v := 76) hx hb dX5_readWill_75 rfl ?_
        refine lv_iload_n hx hb dX5_readWill_77 rfl (lv_at hl 0 rfl) ?_
        refine lv_iadd hx hb dX5_readWill_78 ?_
        refine lv_aload_n hx hb dX5_readWill_79 rfl (lv_at hl 1 rfl) ?_
        refine hm_get C M 18 (by decide) q2085 (v := .int (hm_gI σ_63 18)) rfl dX5_readWill_80 ?_
        obtain ⟨g1, hf⟩ := hf
        refine hm_ast7 C M g1 dX5_readWill_83 (fun H locs M => ?_)
        refine lv_aload_n hx hb dX5_readWill_84 rfl (lv_at hl 1 rfl) ?_
        refine lv_bipush (v := 88) hx hb dX5_readWill_85 rfl ?_
        refine lv_iload_n hx hb dX5_readWill_87 rfl (lv_at hl 0 rfl) ?_
        refine lv_iadd hx hb dX5_readWill_88 ?_
        refine lv_iconst (v := 1) hx hb dX5_readWill_89 rfl ?_
        refine lv_sipush (v := 999) hx hb dX5_readWill_90 rfl ?_
        refine hm_ci C M hl.1 (As := [.int (88 + (hm_gA σ 7 63)), .int 1, .int 999]) (rest := []) (hk_puts l D dA o b hB (88 + (hm_gA σ 7 63)) 1 999 (hm_sA σ_63 7 (76 + (hm_gA σ 7 63)) (hm_gI σ_63 18)) hf) (n := 3) q2272 q2274 qs58 q140 q2275 (by decide +kernel) rfl ⟨Nat.le_of_ble_eq_true rfl, Nat.le_of_ble_eq_true rfl⟩ rfl (Nat.le_of_ble_eq_true rfl) dX5_readWill_93 (fun r_93 σ_93 H locs hf M => ?_)
        obtain ⟨hft, hff⟩ := hf
        refine lv_if_ne (tgt := 101) hx hb dX5_readWill_96 (by decide) (fun c1 => ?_) (fun c1 => ?_)
        · have hf := hft c1
          refine lv_aload_n hx hb dX5_readWill_101 rfl (lv_at hl 1 rfl) ?_
          refine hm_get C M 7 (by decide) q2074 (v := .ref (b 7)) rfl dX5_readWill_102 ?_
          refine lv_bipush (v := 63) hx hb dX5_readWill_105 rfl ?_
          refine lv_dup2_11 hx hb dX5_readWill_107 rfl rfl ?_
          obtain ⟨g1, hf⟩ := hf
          refine hm_ald7 C M g1 dX5_readWill_108 ?_
          refine lv_iconst (v := 1) hx hb dX5_readWill_109 rfl ?_
          refine lv_iadd hx hb dX5_readWill_110 ?_
          obtain ⟨g1, hf⟩ := hf
          refine hm_ast7 C M g1 dX5_readWill_111 (fun H locs M => ?_)
          refine lv_iconst (v := 1) hx hb dX5_readWill_112 rfl ?_
          exact hret _ _ _ _ _ _ dX5_readWill_113 M hb_B1 hf
        · have hf := hff c1
          refine lv_iconst (v := 0) hx hb dX5_readWill_99 rfl ?_
          exact hret _ _ _ _ _ _ dX5_readWill_100 M hb_B0 hf
      · have hf := hff c1
        refine lv_iconst (v := 0) hx hb dX5_readWill_69 rfl ?_
        exact hret _ _ _ _ _ _ dX5_readWill_70 M hb_B0 hf
    · have hf := hff c1
      refine lv_iconst (v := 0) hx hb dX5_readWill_39 rfl ?_
      exact hret _ _ _ _ _ _ dX5_readWill_40 M hb_B0 hf
  · have hf := hff c1
    refine lv_aload_n hx hb dX5_readWill_14 rfl (lv_at hl 1 rfl) ?_
    refine lv_iconst (v := 4) hx hb dX5_readWill_15 rfl ?_
    refine hm_ci C M hl.1 (As := [.int 4]) (rest := []) (hk_bad l D dA o b hB 4 σ hf) (n := 1) q2260 q2262 qs55 q140 q2263 (by decide +kernel) rfl ⟨Nat.le_of_ble_eq_true rfl, Nat.le_of_ble_eq_true rfl⟩ rfl (Nat.le_of_ble_eq_true rfl) dX5_readWill_16 (fun r_16 σ_16 H locs hf M => ?_)
    exact hret _ _ _ _ _ _ dX5_readWill_19 M hf.1 hf.2
