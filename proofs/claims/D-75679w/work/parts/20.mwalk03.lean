set_option maxRecDepth 100000
def hw_back_b2 : Nat → Int32 → hm_S → (hm_S → Prop) → Prop
  | 0, _, _, _ => False
  | n2 + 1, v1_2, σ2, Q => (65 ≤ v1_2 → Q σ2) ∧ (¬ 65 ≤ v1_2 → vp_in v1_2 65 ∧ (vp_in (100 + v1_2) 346 ∧ (hw_back_b2  n2 (v1_2 + 1) (hm_sA σ2 6 (100 + v1_2) (hm_gA σ2 25 v1_2)) Q)))
def hw_back  (σ : hm_S) (Q : hm_S → Prop) : Prop := ∃ n, hw_back_b2  n 0 σ Q
set_option maxHeartbeats 4000000 in
set_option maxRecDepth 100000 in
theorem hk_back (l : Launch) (D : va_G) (dA : Nat → ClassId) (o : Nat) (b : Nat → Nat) (hB : hm_D dA o b)  (σ : hm_S) {Q : hm_S → Prop} (hf : hw_back  σ Q) : Met l yX5_back (ws_ yX5_back cX5_back 2 none) (hb_R 0 0) (va_Pc [.ref o] (hm_U D dA o b σ)) (va_Qv Q (hm_U D dA o b) (hm_A o b)) 0 0 (hm_A o b) := by
  refine hm_Mv hB (LV := [(0, .ref o)]) (by decide) rfl (Nat.le_of_ble_eq_true rfl) (fun p e s m args below meth c ls QQ C M hl hret => ?_)
  have hx := C.1.1
  have hb := C.1.2.1
  have B2 : ∀ (n2 : Nat) (v1_2 : Int32) (σ2 : hm_S) (H : Heap) (locs : List Loc) (ls : Array Slot), hm_M D dA o b s.heap σ2 H locs → lv_has ls 2 [(0, .ref o), (1, .int v1_2)] → hw_back_b2  n2 v1_2 σ2 Q → W p l e (hb_R 0 0) s m args below meth c H locs 0 0 QQ (F0 m 2 ls []) := by
    intro n2
    induction n2 with
    | zero => intro v1_2 σ2 H locs ls M hl hf; exact hf.elim
    | succ n2 ih2 =>
      intro v1_2 σ2 H locs ls M hl hf
      refine lv_iload_n hx hb dX5_back_2 rfl (lv_at hl 1 rfl) ?_
      refine lv_bipush (v := 65) hx hb dX5_back_3 rfl ?_
      obtain ⟨hft, hff⟩ := hf
      refine lv_icmp_ge (tgt := 29) hx hb dX5_back_5 (by decide) (fun c1 => ?_) (fun c1 => ?_)
      · have hf := hft c1
        exact hret _ _ _ _ _ dX5_back_29 M hf
      · have hf := hff c1
        refine lv_aload_n hx hb dX5_back_8 rfl (lv_at hl 0 rfl) ?_
        refine hm_get C M 6 (by decide) q2073 (v := .ref (b 6)) rfl dX5_back_9 ?_
        refine lv_bipush (v := 100) hx hb dX5_back_12 rfl ?_
        refine lv_iload_n hx hb dX5_back_14 rfl (lv_at hl 1 rfl) ?_
        refine lv_iadd hx hb dX5_back_15 ?_
        refine lv_aload_n hx hb dX5_back_16 rfl (lv_at hl 0 rfl) ?_
        refine hm_get C M 25 (by decide) q2092 (v := .ref (b 25)) rfl dX5_back_17 ?_
        refine lv_iload_n hx hb dX5_back_20 rfl (lv_at hl 1 rfl) ?_
        obtain ⟨g1, hf⟩ := hf
        refine hm_ald25 C M g1 dX5_back_21 ?_
        obtain ⟨g1, hf⟩ := hf
        refine hm_ast6 C M g1 dX5_back_22 (fun H locs M => ?_)
        refine lv_iinc (v := v1_2 + 1) (lv' := [(1, .int (v1_2 + 1)), (0, .ref o)]) hx hb dX5_back_23 hl (k := 1) rfl rfl (by decide) rfl (fun ls hl => ?_)
        refine lv_goto (tgt := 2) hx hb dX5_back_26 (by decide) ?_
        exact ih2 (v1_2 + 1) (hm_sA σ2 6 (100 + v1_2) (hm_gA σ2 25 v1_2)) _ _ _ M (lv_sub hl [1, 0] rfl) hf
  refine lv_iconst (v := 0) hx hb dX5_back_0 rfl ?_
  refine lv_istore_n (lv' := [(1, .int 0), (0, .ref o)]) hx hb dX5_back_1 rfl hl (by decide) rfl (fun ls hl => ?_)
  obtain ⟨nn, hf⟩ := hf
  exact B2 nn 0 σ _ _ _ M (lv_sub hl [1, 0] rfl) hf
def hw_tries_b2 : Nat → Int32 → hm_S → (hm_S → Prop) → Prop
  | 0, _, _, _ => False
  | n2 + 1, v1_2, σ2, Q => (65 ≤ v1_2 → Q σ2) ∧ (¬ 65 ≤ v1_2 → vp_in (100 + v1_2) 346 ∧ (vp_in v1_2 65 ∧ (hw_tries_b2  n2 (v1_2 + 1) (hm_sA σ2 25 v1_2 (hm_gA σ2 6 (100 + v1_2))) Q)))
def hw_tries  (σ : hm_S) (Q : hm_S → Prop) : Prop := ∃ n, hw_tries_b2  n 0 σ Q
set_option maxHeartbeats 4000000 in
set_option maxRecDepth 100000 in
theorem hk_tries (l : Launch) (D : va_G) (dA : Nat → ClassId) (o : Nat) (b : Nat → Nat) (hB : hm_D dA o b)  (σ : hm_S) {Q : hm_S → Prop} (hf : hw_tries  σ Q) : Met l yX5_tries (ws_ yX5_tries cX5_tries 2 none) (hb_R 0 0) (va_Pc [.ref o] (hm_U D dA o b σ)) (va_Qv Q (hm_U D dA o b) (hm_A o b)) 0 0 (hm_A o b) := by
  refine hm_Mv hB (LV := [(0, .ref o)]) (by decide) rfl (Nat.le_of_ble_eq_true rfl) (fun p e s m args below meth c ls QQ C M hl hret => ?_)
  have hx := C.1.1
  have hb := C.1.2.1
  have B2 : ∀ (n2 : Nat) (v1_2 : Int32) (σ2 : hm_S) (H : Heap) (locs : List Loc) (ls : Array Slot), hm_M D dA o b s.heap σ2 H locs → lv_has ls 2 [(0, .ref o), (1, .int v1_2)] → hw_tries_b2  n2 v1_2 σ2 Q → W p l e (hb_R 0 0) s m args below meth c H locs 0 0 QQ (F0 m 2 ls []) := by
    intro n2
    induction n2 with
    | zero => intro v1_2 σ2 H locs ls M hl hf; exact hf.elim
    | succ n2 ih2 =>
      intro v1_2 σ2 H locs ls M hl hf
      refine lv_iload_n hx hb dX5_tries_2 rfl (lv_at hl 1 rfl) ?_
      refine lv_bipush (v := 65) hx hb dX5_tries_3 rfl ?_
      obtain ⟨hft, hff⟩ := hf
      refine lv_icmp_ge (tgt := 29) hx hb dX5_tries_5 (by decide) (fun c1 => ?_) (fun c1 => ?_)
      · have hf := hft c1
        exact hret _ _ _ _ _ dX5_tries_29 M hf
      · have hf := hff c1
        refine lv_aload_n hx hb dX5_tries_8 rfl (lv_at hl 0 rfl) ?_
        refine hm_get C M 25 (by decide) q2092 (v := .ref (b 25)) rfl dX5_tries_9 ?_
        refine lv_iload_n hx hb dX5_tries_12 rfl (lv_at hl 1 rfl) ?_
        refine lv_aload_n hx hb dX5_tries_13 rfl (lv_at hl 0 rfl) ?_
        refine hm_get C M 6 (by decide) q2073 (v := .ref (b 6)) rfl dX5_tries_14 ?_
        refine lv_bipush (v := 100) hx hb dX5_tries_17 rfl ?_
        refine lv_iload_n hx hb dX5_tries_19 rfl (lv_at hl 1 rfl) ?_
        refine lv_iadd hx hb dX5_tries_20 ?_
        obtain ⟨g1, hf⟩ := hf
        refine hm_ald6 C M g1 dX5_tries_21 ?_
        obtain ⟨g1, hf⟩ := hf
        refine hm_ast25 C M g1 dX5_tries_22 (fun H locs M => ?_)
        refine lv_iinc (v := v1_2 + 1) (lv' := [(1, .int (v1_2 + 1)), (0, .ref o)]) hx hb dX5_tries_23 hl (k := 1) rfl rfl (by decide) rfl (fun ls hl => ?_)
        refine lv_goto (tgt := 2) hx hb dX5_tries_26 (by decide) ?_
        exact ih2 (v1_2 + 1) (hm_sA σ2 25 v1_2 (hm_gA σ2 6 (100 + v1_2))) _ _ _ M (lv_sub hl [1, 0] rfl) hf
  refine lv_iconst (v := 0) hx hb dX5_tries_0 rfl ?_
  refine lv_istore_n (lv' := [(1, .int 0), (0, .ref o)]) hx hb dX5_tries_1 rfl hl (by decide) rfl (fun ls hl => ?_)
  obtain ⟨nn, hf⟩ := hf
  exact B2 nn 0 σ _ _ _ M (lv_sub hl [1, 0] rfl) hf
def hw_laysGains_b37 (k6 : Int32 → hm_S → Prop) : Nat → Int32 → Int32 → hm_S → (hm_S → Prop) → Prop
  | 0, _, _, _, _ => False
  | n37 + 1, v1_37, v2_37, σ37, Q => vp_in 0 346 ∧ (((hm_gA σ37 6 0) ≤ v2_37 → vp_in 0 346 ∧ (vp_in 102 346 ∧ (vp_in 2 65 ∧ (vp_in ((13 * v1_37) + (hm_gA σ37 6 0)) 156 ∧ (hw_back  (hm_sA σ37 27 ((13 * v1_37) + (hm_gA σ37 6 0)) ((hm_gA σ37 6 102) - (hm_gA σ37 25 2))) (fun σ_122 => (k6 (v1_37 + 1) σ_122))))))) ∧ (¬ (hm_gA σ37 6 0) ≤ v2_37 → (¬ v2_37 = v1_37 → vp_in (105 + v2_37) 346 ∧ (vp_in (5 + v2_37) 65 ∧ (vp_in ((13 * v1_37) + v2_37) 156 ∧ (hw_laysGains_b37 k6 n37 v1_37 (v2_37 + 1) (hm_sA σ37 27 ((13 * v1_37) + v2_37) ((hm_gA σ37 6 (105 + v2_37)) - (hm_gA σ37 25 (5 + v2_37)))) Q)))) ∧ (v2_37 = v1_37 → vp_in ((13 * v1_37) + v2_37) 156 ∧ (hw_laysGains_b37 k6 n37 v1_37 (v2_37 + 1) (hm_sA σ37 27 ((13 * v1_37) + v2_37) (-1)) Q))))
def hw_laysGains_b6 : Nat → Int32 → hm_S → (hm_S → Prop) → Prop
  | 0, _, _, _ => False
  | n6 + 1, v1_6, σ6, Q => vp_in 0 346 ∧ (((hm_gA σ6 6 0) ≤ v1_6 → Q σ6) ∧ (¬ (hm_gA σ6 6 0) ≤ v1_6 → hw_living  σ6 (fun r_17 σ_17 => (hw_bitOf r_17 v1_6 σ_17 (fun r_21 σ_21 => ((¬ r_21 = 0 → hw_dies v1_6 σ_21 (fun σ_32 => (∃ n, hw_laysGains_b37 (fun (u0 : Int32) (τ : hm_S) => hw_laysGains_b6  n6 u0 τ Q) n v1_6 0 σ_32 Q))) ∧ (r_21 = 0 → hw_laysGains_b6  n6 (v1_6 + 1) σ_21 Q)))))))
def hw_laysGains  (σ : hm_S) (Q : hm_S → Prop) : Prop := hw_tries  σ (fun σ_1 => (∃ n, hw_laysGains_b6  n 0 σ_1 Q))
set_option maxHeartbeats 4000000 in
set_option maxRecDepth 100000 in
theorem hk_laysGains (l : Launch) (D : va_G) (dA : Nat → ClassId) (o : Nat) (b : Nat → Nat) (hB : hm_D dA o b)  (σ : hm_S) {Q : hm_S → Prop} (hf : hw_laysGains  σ Q) : Met l yX5_laysGains (ws_ yX5_laysGains cX5_laysGains 3 none) (hb_R 7 164) (va_Pc [.ref o] (hm_U D dA o b σ)) (va_Qv Q (hm_U D dA o b) (hm_A o b)) 0 0 (hm_A o b) := by
  refine hm_Mv hB (LV := [(0, .ref o)]) (by decide) rfl (Nat.le_of_ble_eq_true rfl) (fun p e s m args below meth c ls QQ C M hl hret => ?_)
  have hx := C.1.1
  have hb := C.1.2.1
  have B6 : ∀ (n6 : Nat) (v1_6 : Int32) (σ6 : hm_S) (H : Heap) (locs : List Loc) (ls : Array Slot), hm_M D dA o b s.heap σ6 H locs → lv_has ls 3 [(0, .ref o), (1, .int v1_6)] → hw_laysGains_b6  n6 v1_6 σ6 Q → W p l e (hb_R 7 164) s m args below meth c H locs 0 0 QQ (F0 m 6 ls []) := by
    intro n6
    induction n6 with
    | zero => intro v1_6 σ6 H locs ls M hl hf; exact hf.elim
    | succ n6 ih6 =>
      have B37 : ∀ (n37 : Nat) (v1_37 : Int32) (v2_37 : Int32) (σ37 : hm_S) (H : Heap) (locs : List Loc) (ls : Array Slot), hm_M D dA o b s.heap σ37 H locs → lv_has ls 3 [(0, .ref o), (1, .int v1_37), (2, .int v2_37)] → hw_laysGains_b37 (fun (u0 : Int32) (τ : hm_S) => hw_laysGains_b6  n6 u0 τ Q) n37 v1_37 v2_37 σ37 Q → W p l e (hb_R 7 164) s m args below meth c H locs 0 0 QQ (F0 m 37 ls []) := by
        intro n37
        induction n37 with
        | zero => intro v1_37 v2_37 σ37 H locs ls M hl hf; exact hf.elim
        | succ n37 ih37 =>
          intro v1_37 v2_37 σ37 H locs ls M hl hf
          refine lv_iload_n hx hb dX5_laysGains_37 rfl (lv_at hl 2 rfl) ?_
          refine lv_aload_n hx hb dX5_laysGains_38 rfl (lv_at hl 0 rfl) ?_
          refine hm_get C M 6 (by decide) q2073 (v := .ref (b 6)) rfl dX5_laysGains_39 ?_
          refine lv_iconst (v := 0) hx hb dX5_laysGains_42 rfl ?_
          obtain ⟨g1, hf⟩ := hf
          refine hm_ald6 C M g1 dX5_laysGains_43 ?_
          obtain ⟨hft, hff⟩ := hf
          refine lv_icmp_ge (tgt := 91) hx hb dX5_laysGains_44 (by decide) (fun c1 => ?_) (fun c1 => ?_)
          · have hf := hft c1
            refine lv_aload_n hx hb dX5_laysGains_91 rfl (lv_at hl 0 rfl) ?_
            refine hm_get C M 27 (by decide) q2094 (v := .ref (b 27)) rfl dX5_laysGains_92 ?_
            refine lv_bipush (v := 13) hx hb dX5_laysGains_95 rfl ?_
            refine lv_iload_n hx hb dX5_laysGains_97 rfl (lv_at hl 1 rfl) ?_
            refine lv_imul hx hb dX5_laysGains_98 ?_
            refine lv_aload_n hx hb dX5_laysGains_99 rfl (lv_at hl 0 rfl) ?_
            refine hm_get C M 6 (by decide) q2073 (v := .ref (b 6)) rfl dX5_laysGains_100 ?_
            refine lv_iconst (v := 0) hx hb dX5_laysGains_103 rfl ?_
            obtain ⟨g1, hf⟩ := hf
            refine hm_ald6 C M g1 dX5_laysGains_104 ?_
            refine lv_iadd hx hb dX5_laysGains_105 ?_
            refine lv_aload_n hx hb dX5_laysGains_106 rfl (lv_at hl 0 rfl) ?_
            refine hm_get C M 6 (by decide) q2073 (v := .ref (b 6)) rfl dX5_laysGains_107 ?_
            refine lv_bipush (v := 102) hx hb dX5_laysGains_110 rfl ?_
            obtain ⟨g1, hf⟩ := hf
            refine hm_ald6 C M g1 dX5_laysGains_112 ?_
            refine lv_aload_n hx hb dX5_laysGains_113 rfl (lv_at hl 0 rfl) ?_
            refine hm_get C M 25 (by decide) q2092 (v := .ref (b 25)) rfl dX5_laysGains_114 ?_
            refine lv_iconst (v := 2) hx hb dX5_laysGains_117 rfl ?_
            obtain ⟨g1, hf⟩ := hf
            refine hm_ald25 C M g1 dX5_laysGains_118 ?_
            refine lv_isub hx hb dX5_laysGains_119 ?_
            obtain ⟨g1, hf⟩ := hf
            refine hm_ast27 C M g1 dX5_laysGains_120 (fun H locs M => ?_)
            refine lv_aload_n hx hb dX5_laysGains_121 rfl (lv_at hl 0 rfl) ?_
            refine hm_cv C M hl.1 (As := []) (rest := []) (hk_back l D dA o b hB  (hm_sA σ37 27 ((13 * v1_37) + (hm_gA σ37 6 0)) ((hm_gA σ37 6 102) - (hm_gA σ37 25 2))) hf) (n := 0) q2508 q2510 qs100 q140 q2511 (by decide +kernel) rfl ⟨Nat.le_of_ble_eq_true rfl, Nat.le_of_ble_eq_true rfl⟩ rfl (Nat.le_of_ble_eq_true rfl) dX5_laysGains_122 (fun σ_122 H locs hf M => ?_)
            refine lv_iinc (v := v1_37 + 1) (lv' := [(1, .int (v1_37 + 1)), (0, .ref o), (2, .int v2_37)]) hx hb dX5_laysGains_125 hl (k := 1) rfl rfl (by decide) rfl (fun ls hl => ?_)
            refine lv_goto (tgt := 6) hx hb dX5_laysGains_128 (by decide) ?_
            exact ih6 (v1_37 + 1) σ_122 _ _ _ M (lv_sub hl [1, 0] rfl) hf
          · have hf := hff c1
            refine lv_aload_n hx hb dX5_laysGains_47 rfl (lv_at hl 0 rfl) ?_
            refine hm_get C M 27 (by decide) q2094 (v := .ref (b 27)) rfl dX5_laysGains_48 ?_
            refine lv_bipush (v := 13) hx hb dX5_laysGains_51 rfl ?_
            refine lv_iload_n hx hb dX5_laysGains_53 rfl (lv_at hl 1 rfl) ?_
            refine lv_imul hx hb dX5_laysGains_54 ?_
            refine lv_iload_n hx hb dX5_laysGains_55 rfl (lv_at hl 2 rfl) ?_
            refine lv_iadd hx hb dX5_laysGains_56 ?_
            refine lv_iload_n hx hb dX5_laysGains_57 rfl (lv_at hl 2 rfl) ?_
            refine lv_iload_n hx hb dX5_laysGains_58 rfl (lv_at hl 1 rfl) ?_
            obtain ⟨hft, hff⟩ := hf
            refine lv_icmp_ne (tgt := 66) hx hb dX5_laysGains_59 (by decide) (fun c1 => ?_) (fun c1 => ?_)
            · have hf := hft c1
              refine lv_aload_n hx hb dX5_laysGains_66 rfl (lv_at hl 0 rfl) ?_
              refine hm_get C M 6 (by decide) q2073 (v := .ref (b 6)) rfl dX5_laysGains_67 ?_
              refine lv_bipush (v := 105) hx hb dX5_laysGains_70 rfl ?_
              refine lv_iload_n hx hb dX5_laysGains_72 rfl (lv_at hl 2 rfl) ?_
              refine lv_iadd hx hb dX5_laysGains_73 ?_
              obtain ⟨g1, hf⟩ := hf
              refine hm_ald6 C M g1 dX5_laysGains_74 ?_
              refine lv_aload_n hx hb dX5_laysGains_75 rfl (lv_at hl 0 rfl) ?_
              refine hm_get C M 25 (by decide) q2092 (v := .ref (b 25)) rfl dX5_laysGains_76 ?_
              refine lv_iconst (v := 5) hx hb dX5_laysGains_79 rfl ?_
              refine lv_iload_n hx hb dX5_laysGains_80 rfl (lv_at hl 2 rfl) ?_
              refine lv_iadd hx hb dX5_laysGains_81 ?_
              obtain ⟨g1, hf⟩ := hf
              refine hm_ald25 C M g1 dX5_laysGains_82 ?_
              refine lv_isub hx hb dX5_laysGains_83 ?_
              obtain ⟨g1, hf⟩ := hf
              refine hm_ast27 C M g1 dX5_laysGains_84 (fun H locs M => ?_)
              refine lv_iinc (v := v2_37 + 1) (lv' := [(2, .int (v2_37 + 1)), (0, .ref o), (1, .int v1_37)]) hx hb dX5_laysGains_85 hl (k := 2) rfl rfl (by decide) rfl (fun ls hl => ?_)
              refine lv_goto (tgt := 37) hx hb dX5_laysGains_88 (by decide) ?_
              exact ih37 v1_37 (v2_37 + 1) (hm_sA σ37 27 ((13 * v1_37) + v2_37) ((hm_gA σ37 6 (105 + v2_37)) - (hm_gA σ37 25 (5 + v2_37)))) _ _ _ M (lv_sub hl [1, 2, 0] rfl) hf
            · have hf := hff c1
              refine lv_iconst (v := (-1)) hx hb dX5_laysGains_62 rfl ?_
              refine lv_goto (tgt := 84) hx hb dX5_laysGains_63 (by decide) ?_
              obtain ⟨g1, hf⟩ := hf
              refine hm_ast27 C M g1 dX5_laysGains_84 (fun H locs M => ?_)
              refine lv_iinc (v := v2_37 + 1) (lv' := [(2, .int (v2_37 + 1)), (0, .ref o), (1, .int v1_37)]) hx hb dX5_laysGains_85 hl (k := 2) rfl rfl (by decide) rfl (fun ls hl => ?_)
              refine lv_goto (tgt := 37) hx hb dX5_laysGains_88 (by decide) ?_
              exact ih37 v1_37 (v2_37 + 1) (hm_sA σ37 27 ((13 * v1_37) + v2_37) (-1)) _ _ _ M (lv_sub hl [1, 2, 0] rfl) hf
      intro v1_6 σ6 H locs ls M hl hf
      refine lv_iload_n hx hb dX5_laysGains_6 rfl (lv_at hl 1 rfl) ?_
      refine lv_aload_n hx hb dX5_laysGains_7 rfl (lv_at hl 0 rfl) ?_
      refine hm_get C M 6 (by decide) q2073 (v := .ref (b 6)) rfl dX5_laysGains_8 ?_
      refine lv_iconst (v := 0) hx hb dX5_laysGains_11 rfl ?_
      obtain ⟨g1, hf⟩ := hf
      refine hm_ald6 C M g1 dX5_laysGains_12 ?_
      obtain ⟨hft, hff⟩ := hf
      refine lv_icmp_ge (tgt := 131) hx hb dX5_laysGains_13 (by decide) (fun c1 => ?_) (fun c1 => ?_)
      · have hf := hft c1
        exact hret _ _ _ _ _ dX5_laysGains_131 M hf
      · have hf := hff c1
        refine lv_aload_n hx hb dX5_laysGains_16 rfl (lv_at hl 0 rfl) ?_
        refine hm_ci C M hl.1 (As := []) (rest := []) (hk_living l D dA o b hB  σ6 hf) (n := 0) q2357 q2359 qs75 q140 q2360 (by decide +kernel) rfl ⟨Nat.le_of_ble_eq_true rfl, Nat.le_of_ble_eq_true rfl⟩ rfl (Nat.le_of_ble_eq_true rfl) dX5_laysGains_17 (fun r_17 σ_17 H locs hf M => ?_)
        refine lv_iload_n hx hb dX5_laysGains_20 rfl (lv_at hl 1 rfl) ?_
        refine hm_csi C M hl.1 (As := [.int r_17, .int v1_6]) (rest := []) (hk_bitOf l D dA o b hB r_17 v1_6 σ_17 hf) (n := 2) q2294 q2295 q140 q2296 (by decide +kernel) rfl ⟨Nat.le_of_ble_eq_true rfl, Nat.le_of_ble_eq_true rfl⟩ rfl (Nat.le_of_ble_eq_true rfl) dX5_laysGains_21 (fun r_21 σ_21 H locs hf M => ?_)
        obtain ⟨hft, hff⟩ := hf
        refine lv_if_ne (tgt := 30) hx hb dX5_laysGains_24 (by decide) (fun c1 => ?_) (fun c1 => ?_)
        · have hf := hft c1
          refine lv_aload_n hx hb dX5_laysGains_30 rfl (lv_at hl 0 rfl) ?_
          refine lv_iload_n hx hb dX5_laysGains_31 rfl (lv_at hl 1 rfl) ?_
          refine hm_cv C M hl.1 (As := [.int v1_6]) (rest := []) (hk_dies l D dA o b hB v1_6 σ_21 hf) (n := 1) q2397 q2399 qs81 q140 q2400 (by decide +kernel) rfl ⟨Nat.le_of_ble_eq_true rfl, Nat.le_of_ble_eq_true rfl⟩ rfl (Nat.le_of_ble_eq_true rfl) dX5_laysGains_32 (fun σ_32 H locs hf M => ?_)
          refine lv_iconst (v := 0) hx hb dX5_laysGains_35 rfl ?_
          refine lv_istore_n (lv' := [(2, .int 0), (0, .ref o), (1, .int v1_6)]) hx hb dX5_laysGains_36 rfl hl (by decide) rfl (fun ls hl => ?_)
          obtain ⟨nn, hf⟩ := hf
          exact B37 nn v1_6 0 σ_32 _ _ _ M (lv_sub hl [1, 2, 0] rfl) hf
        · have hf := hff c1
          refine lv_goto (tgt := 125) hx hb dX5_laysGains_27 (by decide) ?_
          refine lv_iinc (v := v1_6 + 1) (lv' := [(1, .int (v1_6 + 1)), (0, .ref o)]) hx hb dX5_laysGains_125 hl (k := 1) rfl rfl (by decide) rfl (fun ls hl => ?_)
          refine lv_goto (tgt := 6) hx hb dX5_laysGains_128 (by decide) ?_
          exact ih6 (v1_6 + 1) σ_21 _ _ _ M (lv_sub hl [1, 0] rfl) hf
  refine lv_aload_n hx hb dX5_laysGains_0 rfl (lv_at hl 0 rfl) ?_
  refine hm_cv C M hl.1 (As := []) (rest := []) (hk_tries l D dA o b hB  σ hf) (n := 0) q2504 q2506 qs99 q140 q2507 (by decide +kernel) rfl ⟨Nat.le_of_ble_eq_true rfl, Nat.le_of_ble_eq_true rfl⟩ rfl (Nat.le_of_ble_eq_true rfl) dX5_laysGains_1 (fun σ_1 H locs hf M => ?_)
  refine lv_iconst (v := 0) hx hb dX5_laysGains_4 rfl ?_
  refine lv_istore_n (lv' := [(1, .int 0), (0, .ref o)]) hx hb dX5_laysGains_5 rfl hl (by decide) rfl (fun ls hl => ?_)
  obtain ⟨nn, hf⟩ := hf
  exact B6 nn 0 σ_1 _ _ _ M (lv_sub hl [1, 0] rfl) hf
def hw_gets (a1 : Int32) (a2 : Int32) (σ : hm_S) (Q : Int32 → hm_S → Prop) : Prop := hw_isPerson a1 (hm_sI σ 0 0) (fun r_7 σ_7 => ((r_7 = 0 → Q (-1) σ_7) ∧ (¬ r_7 = 0 → hw_isLiving a1 σ_7 (fun r_15 σ_15 => ((r_15 = 0 → Q (-1) σ_15) ∧ (¬ r_15 = 0 → (a1 = a2 → Q (-1) σ_15) ∧ (¬ a1 = a2 → vp_in 0 346 ∧ (hw_isIn a2 0 (hm_gA σ_15 6 0) σ_15 (fun r_34 σ_34 => ((¬ r_34 = 0 → hw_laysGains  σ_34 (fun σ_43 => (vp_in ((13 * a1) + a2) 156 ∧ (Q (hm_gA σ_43 27 ((13 * a1) + a2)) σ_43)))) ∧ (r_34 = 0 → Q (-1) σ_34)))))))))))
set_option maxHeartbeats 4000000 in
set_option maxRecDepth 100000 in
theorem hk_gets (l : Launch) (D : va_G) (dA : Nat → ClassId) (o : Nat) (b : Nat → Nat) (hB : hm_D dA o b) (a1 : Int32) (a2 : Int32) (σ : hm_S) {Q : Int32 → hm_S → Prop} (hf : hw_gets a1 a2 σ Q) : Met l yX5_gets (ws_ yX5_gets cX5_gets 3 (some .int)) (hb_R 8 186) (va_Pc [.ref o, .int a1, .int a2] (hm_U D dA o b σ)) (va_Qi Q (hm_U D dA o b) (hm_A o b)) 0 0 (hm_A o b) := by
  refine hm_Mi hB (LV := [(0, .ref o), (1, .int a1), (2, .int a2)]) (by decide) rfl (Nat.le_of_ble_eq_true rfl) (fun p e s m args below meth c ls QQ C M hl hret => ?_)
  have hx := C.1.1
  have hb := C.1.2.1
  refine lv_aload_n hx hb dX5_gets_0 rfl (lv_at hl 0 rfl) ?_
  refine lv_iconst (v := 0) hx hb dX5_gets_1 rfl ?_
  refine hm_put0 C M q2067 dX5_gets_2 (fun H locs M => ?_)
  refine lv_aload_n hx hb dX5_gets_5 rfl (lv_at hl 0 rfl) ?_
  refine lv_iload_n hx hb dX5_gets_6 rfl (lv_at hl 1 rfl) ?_
  refine hm_ci C M hl.1 (As := [.int a1]) (rest := []) (hk_isPerson l D dA o b hB a1 (hm_sI σ 0 0) hf) (n := 1) q2333 q2335 qs69 q140 q2336 (by decide +kernel) rfl ⟨Nat.le_of_ble_eq_true rfl, Nat.le_of_ble_eq_true rfl⟩ rfl (Nat.le_of_ble_eq_true rfl) dX5_gets_7 (fun r_7 σ_7 H locs hf M => ?_)
  obtain ⟨hft, hff⟩ := hf
  refine lv_if_eq (tgt := 40) hx hb dX5_gets_10 (by decide) (fun c1 => ?_) (fun c1 => ?_)
  · have hf := hft c1
    refine lv_iconst (v := (-1)) hx hb dX5_gets_40 rfl ?_
    exact hret _ _ _ _ _ _ dX5_gets_41 M hf
  · have hf := hff c1
    refine lv_aload_n hx hb dX5_gets_13 rfl (lv_at hl 0 rfl) ?_
    refine lv_iload_n hx hb dX5_gets_14 rfl (lv_at hl 1 rfl) ?_
    refine hm_ci C M hl.1 (As := [.int a1]) (rest := []) (hk_isLiving l D dA o b hB a1 σ_7 hf) (n := 1) q2341 q2343 qs71 q140 q2344 (by decide +kernel) rfl ⟨Nat.le_of_ble_eq_true rfl, Nat.le_of_ble_eq_true rfl⟩ rfl (Nat.le_of_ble_eq_true rfl) dX5_gets_15 (fun r_15 σ_15 H locs hf M => ?_)
    obtain ⟨hft, hff⟩ := hf
    refine lv_if_eq (tgt := 40) hx hb dX5_gets_18 (by decide) (fun c1 => ?_) (fun c1 => ?_)
    · have hf := hft c1
      refine lv_iconst (v := (-1)) hx hb dX5_gets_40 rfl ?_
      exact hret _ _ _ _ _ _ dX5_gets_41 M hf
    · have hf := hff c1
      refine lv_iload_n hx hb dX5_gets_21 rfl (lv_at hl 1 rfl) ?_
      refine lv_iload_n hx hb dX5_gets_22 rfl (lv_at hl 2 rfl) ?_
      obtain ⟨hft, hff⟩ := hf
      refine lv_icmp_eq (tgt := 40) hx hb dX5_gets_23 (by decide) (fun c1 => ?_) (fun c1 => ?_)
      · have hf := hft c1
        refine lv_iconst (v := (-1)) hx hb dX5_gets_40 rfl ?_
        exact hret _ _ _ _ _ _ dX5_gets_41 M hf
      · have hf := hff c1
        refine lv_iload_n hx hb dX5_gets_26 rfl (lv_at hl 2 rfl) ?_
        refine lv_iconst (v := 0) hx hb dX5_gets_27 rfl ?_
        refine lv_aload_n hx hb dX5_gets_28 rfl (lv_at hl 0 rfl) ?_
        refine hm_get C M 6 (by decide) q2073 (v := .ref (b 6)) rfl dX5_gets_29 ?_
        refine lv_iconst (v := 0) hx hb dX5_gets_32 rfl ?_
        obtain ⟨g1, hf⟩ := hf
        refine hm_ald6 C M g1 dX5_gets_33 ?_
        refine hm_csi C M hl.1 (As := [.int a2, .int 0, .int (hm_gA σ_15 6 0)]) (rest := []) (hk_isIn l D dA o b hB a2 0 (hm_gA σ_15 6 0) σ_15 hf) (n := 3) q2280 q2281 q140 q2282 (by decide +kernel) rfl ⟨Nat.le_of_ble_eq_true rfl, Nat.le_of_ble_eq_true rfl⟩ rfl (Nat.le_of_ble_eq_true rfl) dX5_gets_34 (fun r_34 σ_34 H locs hf M => ?_)
        obtain ⟨hft, hff⟩ := hf
        refine lv_if_ne (tgt := 42) hx hb dX5_gets_37 (by decide) (fun c1 => ?_) (fun c1 => ?_)
        · have hf := hft c1
          refine lv_aload_n hx hb dX5_gets_42 rfl (lv_at hl 0 rfl) ?_
          refine hm_cv C M hl.1 (As := []) (rest := []) (hk_laysGains l D dA o b hB  σ_34 hf) (n := 0) q2500 q2502 qs98 q140 q2503 (by decide +kernel) rfl ⟨Nat.le_of_ble_eq_true rfl, Nat.le_of_ble_eq_true rfl⟩ rfl (Nat.le_of_ble_eq_true rfl) dX5_gets_43 (fun σ_43 H locs hf M => ?_)
          refine lv_aload_n hx hb dX5_gets_46 rfl (lv_at hl 0 rfl) ?_
          refine hm_get C M 27 (by decide) q2094 (v := .ref (b 27)) rfl dX5_gets_47 ?_
          refine lv_bipush (v := 13) hx hb dX5_gets_50 rfl ?_
          refine lv_iload_n hx hb dX5_gets_52 rfl (lv_at hl 1 rfl) ?_
          refine lv_imul hx hb dX5_gets_53 ?_
          refine lv_iload_n hx hb dX5_gets_54 rfl (lv_at hl 2 rfl) ?_
          refine lv_iadd hx hb dX5_gets_55 ?_
          obtain ⟨g1, hf⟩ := hf
          refine hm_ald27 C M g1 dX5_gets_56 ?_
          exact hret _ _ _ _ _ _ dX5_gets_57 M hf
        · have hf := hff c1
          refine lv_iconst (v := (-1)) hx hb dX5_gets_40 rfl ?_
          exact hret _ _ _ _ _ _ dX5_gets_41 M hf
def hw_octet (a1 : Int32) (σ : hm_S) (Q : Int32 → hm_S → Prop) : Prop := vp_in a1 940 ∧ (Q ((hm_gA σ 1 a1) &&& 255) σ)
set_option maxHeartbeats 4000000 in
set_option maxRecDepth 100000 in
theorem hk_octet (l : Launch) (D : va_G) (dA : Nat → ClassId) (o : Nat) (b : Nat → Nat) (hB : hm_D dA o b) (a1 : Int32) (σ : hm_S) {Q : Int32 → hm_S → Prop} (hf : hw_octet a1 σ Q) : Met l yX5_octet (ws_ yX5_octet cX5_octet 2 (some .int)) (hb_R 0 0) (va_Pc [.ref o, .int a1] (hm_U D dA o b σ)) (va_Qi Q (hm_U D dA o b) (hm_A o b)) 0 0 (hm_A o b) := by
  refine hm_Mi hB (LV := [(0, .ref o), (1, .int a1)]) (by decide) rfl (Nat.le_of_ble_eq_true rfl) (fun p e s m args below meth c ls QQ C M hl hret => ?_)
  have hx := C.1.1
  have hb := C.1.2.1
  refine lv_aload_n hx hb dX5_octet_0 rfl (lv_at hl 0 rfl) ?_
  refine hm_get C M 1 (by decide) q2068 (v := .ref (b 1)) rfl dX5_octet_1 ?_
  refine lv_iload_n hx hb dX5_octet_4 rfl (lv_at hl 1 rfl) ?_
  obtain ⟨g1, hf⟩ := hf
  refine hm_ald1 C M g1 dX5_octet_5 ?_
  refine lv_sipush (v := 255) hx hb dX5_octet_6 rfl ?_
  refine lv_iand hx hb dX5_octet_9 ?_
  exact hret _ _ _ _ _ _ dX5_octet_10 M hf
def hw_toldLiving_b19 : Nat → Int32 → Int32 → Int32 → hm_S → (Int32 → hm_S → Prop) → Prop
  | 0, _, _, _, _, _ => False
  | n19 + 1, v2_19, v3_19, v4_19, σ19, Q => ((hm_gI σ19 3) ≤ v4_19 → Q v3_19 σ19) ∧ (¬ (hm_gI σ19 3) ≤ v4_19 → hw_octet v4_19 σ19 (fun r_31 σ_31 => (hw_isPerson r_31 σ_31 (fun r_39 σ_39 => ((r_39 = 0 → Q (-1) σ_39) ∧ (¬ r_39 = 0 → hw_isLiving r_31 σ_39 (fun r_48 σ_48 => ((r_48 = 0 → Q (-1) σ_48) ∧ (¬ r_48 = 0 → (r_31 = v2_19 → Q (-1) σ_48) ∧ (¬ r_31 = v2_19 → hw_bitOf v3_19 r_31 σ_48 (fun r_63 σ_63 => ((r_63 = 0 → hw_toldLiving_b19  n19 v2_19 (v3_19 ||| ((1 : Int32) <<< (r_31 &&& 31))) (v4_19 + 1) σ_63 Q) ∧ (¬ r_63 = 0 → Q (-1) σ_63)))))))))))))
def hw_toldLiving (a1 : Int32) (a2 : Int32) (σ : hm_S) (Q : Int32 → hm_S → Prop) : Prop := hw_isIn (hm_gI σ 3) 1 a1 σ (fun r_6 σ_6 => ((¬ r_6 = 0 → ∃ n, hw_toldLiving_b19  n a2 0 0 σ_6 Q) ∧ (r_6 = 0 → Q (-1) σ_6)))
set_option maxHeartbeats 4000000 in
set_option maxRecDepth 100000 in
theorem hk_toldLiving (l : Launch) (D : va_G) (dA : Nat → ClassId) (o : Nat) (b : Nat → Nat) (hB : hm_D dA o b) (a1 : Int32) (a2 : Int32) (σ : hm_S) {Q : Int32 → hm_S → Prop} (hf : hw_toldLiving a1 a2 σ Q) : Met l yX5_toldLiving (ws_ yX5_toldLiving cX5_toldLiving 6 (some .int)) (hb_R 2 43) (va_Pc [.ref o, .int a1, .int a2] (hm_U D dA o b σ)) (va_Qi Q (hm_U D dA o b) (hm_A o b)) 0 0 (hm_A o b) := by
  refine hm_Mi hB (LV := [(0, .ref o), (1, .int a1), (2, .int a2)]) (by decide) rfl (Nat.le_of_ble_eq_true rfl) (fun p e s m args below meth c ls QQ C M hl hret => ?_)
  have hx := C.1.1
  have hb := C.1.2.1
  have B19 : ∀ (n19 : Nat) (v2_19 : Int32) (v3_19 : Int32) (v4_19 : Int32) (σ19 : hm_S) (H : Heap) (locs : List Loc) (ls : Array Slot), hm_M D dA o b s.heap σ19 H locs → lv_has ls 6 [(0, .ref o), (2, .int v2_19), (3, .int v3_19), (4, .int v4_19)] → hw_toldLiving_b19  n19 v2_19 v3_19 v4_19 σ19 Q → W p l e (hb_R 2 43) s m args below meth c H locs 0 0 QQ (F0 m 19 ls []) := by
    intro n19
    induction n19 with
    | zero => intro v2_19 v3_19 v4_19 σ19 H locs ls M hl hf; exact hf.elim
    | succ n19 ih19 =>
      intro v2_19 v3_19 v4_19 σ19 H locs ls M hl hf
      refine lv_iload hx hb dX5_toldLiving_19 (lv_at hl 3 rfl) ?_
      refine lv_aload_n hx hb dX5_toldLiving_21 rfl (lv_at hl 0 rfl) ?_
      refine hm_get C M 3 (by decide) q2070 (v := .int (hm_gI σ19 3)) rfl dX5_toldLiving_22 ?_
      obtain ⟨hft, hff⟩ := hf
      refine lv_icmp_ge (tgt := 84) hx hb dX5_toldLiving_25 (by decide) (fun c1 => ?_) (fun c1 => ?_)
      · have hf := hft c1
        refine lv_iload_n hx hb dX5_toldLiving_84 rfl (lv_at hl 2 rfl) ?_
        exact hret _ _ _ _ _ _ dX5_toldLiving_85 M hf
      · have hf := hff c1
        refine lv_aload_n hx hb dX5_toldLiving_28 rfl (lv_at hl 0 rfl) ?_
        refine lv_iload hx hb dX5_toldLiving_29 (lv_at hl 3 rfl) ?_
        refine hm_ci C M hl.1 (As := [.int v4_19]) (rest := []) (hk_octet l D dA o b hB v4_19 σ19 hf) (n := 1) q2520 q2522 qs102 q140 q2523 (by decide +kernel) rfl ⟨Nat.le_of_ble_eq_true rfl, Nat.le_of_ble_eq_true rfl⟩ rfl (Nat.le_of_ble_eq_true rfl) dX5_toldLiving_31 (fun r_31 σ_31 H locs hf M => ?_)
        refine lv_istore (lv' := [(5, .int r_31), (0, .ref o), (2, .int v2_19), (3, .int v3_19), (4, .int v4_19)]) hx hb dX5_toldLiving_34 hl (by decide) rfl (fun ls hl => ?_)
        refine lv_aload_n hx hb dX5_toldLiving_36 rfl (lv_at hl 1 rfl) ?_
        refine lv_iload hx hb dX5_toldLiving_37 (lv_at hl 0 rfl) ?_
        refine hm_ci C M hl.1 (As := [.int r_31]) (rest := []) (hk_isPerson l D dA o b hB r_31 σ_31 hf) (n := 1) q2333 q2335 qs69 q140 q2336 (by decide +kernel) rfl ⟨Nat.le_of_ble_eq_true rfl, Nat.le_of_ble_eq_true rfl⟩ rfl (Nat.le_of_ble_eq_true rfl) dX5_toldLiving_39 (fun r_39 σ_39 H locs hf M => ?_)
        obtain ⟨hft, hff⟩ := hf
        refine lv_if_eq (tgt := 69) hx hb dX5_toldLiving_42 (by decide) (fun c1 => ?_) (fun c1 => ?_)
        · have hf := hft c1
          refine lv_iconst (v := (-1)) hx hb dX5_toldLiving_69 rfl ?_
          exact hret _ _ _ _ _ _ dX5_toldLiving_70 M hf
        · have hf := hff c1
          refine lv_aload_n hx hb dX5_toldLiving_45 rfl (lv_at hl 1 rfl) ?_
          refine lv_iload hx hb dX5_toldLiving_46 (lv_at hl 0 rfl) ?_
          refine hm_ci C M hl.1 (As := [.int r_31]) (rest := []) (hk_isLiving l D dA o b hB r_31 σ_39 hf) (n := 1) q2341 q2343 qs71 q140 q2344 (by decide +kernel) rfl ⟨Nat.le_of_ble_eq_true rfl, Nat.le_of_ble_eq_true rfl⟩ rfl (Nat.le_of_ble_eq_true rfl) dX5_toldLiving_48 (fun r_48 σ_48 H locs hf M => ?_)
          obtain ⟨hft, hff⟩ := hf
          refine lv_if_eq (tgt := 69) hx hb dX5_toldLiving_51 (by decide) (fun c1 => ?_) (fun c1 => ?_)
          · have hf := hft c1
            refine lv_iconst (v := (-1)) hx hb dX5_toldLiving_69 rfl ?_
            exact hret _ _ _ _ _ _ dX5_toldLiving_70 M hf
          · have hf := hff c1
            refine lv_iload hx hb dX5_toldLiving_54 (lv_at hl 0 rfl) ?_
            refine lv_iload_n hx hb dX5_toldLiving_56 rfl (lv_at hl 2 rfl) ?_
            obtain ⟨hft, hff⟩ := hf
            refine lv_icmp_eq (tgt := 69) hx hb dX5_toldLiving_57 (by decide) (fun c1 => ?_) (fun c1 => ?_)
            · have hf := hft c1
              refine lv_iconst (v := (-1)) hx hb dX5_toldLiving_69 rfl ?_
              exact hret _ _ _ _ _ _ dX5_toldLiving_70 M hf
            · have hf := hff c1
              refine lv_iload_n hx hb dX5_toldLiving_60 rfl (lv_at hl 3 rfl) ?_
              refine lv_iload hx hb dX5_toldLiving_61 (lv_at hl 0 rfl) ?_
              refine hm_csi C M hl.1 (As := [.int v3_19, .int r_31]) (rest := []) (hk_bitOf l D dA o b hB v3_19 r_31 σ_48 hf) (n := 2) q2294 q2295 q140 q2296 (by decide +kernel) rfl ⟨Nat.le_of_ble_eq_true rfl, Nat.le_of_ble_eq_true rfl⟩ rfl (Nat.le_of_ble_eq_true rfl) dX5_toldLiving_63 (fun r_63 σ_63 H locs hf M => ?_)
              obtain ⟨hft, hff⟩ := hf
              refine lv_if_eq (tgt := 71) hx hb dX5_toldLiving_66 (by decide) (fun c1 => ?_) (fun c1 => ?_)
              · have hf := hft c1
                refine lv_iload_n hx hb dX5_toldLiving_71 rfl (lv_at hl 3 rfl) ?_
                refine lv_iconst (v := 1) hx hb dX5_toldLiving_72 rfl ?_
                refine lv_iload hx hb dX5_toldLiving_73 (lv_at hl 0 rfl) ?_
                refine lv_ishl hx hb dX5_toldLiving_75 ?_
                refine lv_ior hx hb dX5_toldLiving_76 ?_
                refine lv_istore_n (lv' := [(3, .int (v3_19 ||| ((1 : Int32) <<< (r_31 &&& 31)))), (5, .int r_31), (0, .ref o), (2, .int v2_19), (4, .int v4_19)]) hx hb dX5_toldLiving_77 rfl hl (by decide) rfl (fun ls hl => ?_)
                refine lv_iinc (v := v4_19 + 1) (lv' := [(4, .int (v4_19 + 1)), (3, .int (v3_19 ||| ((1 : Int32) <<< (r_31 &&& 31)))), (5, .int r_31), (0, .ref o), (2, .int v2_19)]) hx hb dX5_toldLiving_78 hl (k := 4) rfl rfl (by decide) rfl (fun ls hl => ?_)
                refine lv_goto (tgt := 19) hx hb dX5_toldLiving_81 (by decide) ?_
                exact ih19 v2_19 (v3_19 ||| ((1 : Int32) <<< (r_31 &&& 31))) (v4_19 + 1) σ_63 _ _ _ M (lv_sub hl [3, 4, 1, 0] rfl) hf
              · have hf := hff c1
                refine lv_iconst (v := (-1)) hx hb dX5_toldLiving_69 rfl ?_
                exact hret _ _ _ _ _ _ dX5_toldLiving_70 M hf
  refine lv_aload_n hx hb dX5_toldLiving_0 rfl (lv_at hl 0 rfl) ?_
  refine hm_get C M 3 (by decide) q2070 (v := .int (hm_gI σ 3)) rfl dX5_toldLiving_1 ?_
  refine lv_iconst (v := 1) hx hb dX5_toldLiving_4 rfl ?_
  refine lv_iload_n hx hb dX5_toldLiving_5 rfl (lv_at hl 1 rfl) ?_
  refine hm_csi C M hl.1 (As := [.int (hm_gI σ 3), .int 1, .int a1]) (rest := []) (hk_isIn l D dA o b hB (hm_gI σ 3) 1 a1 σ hf) (n := 3) q2280 q2281 q140 q2282 (by decide +kernel) rfl ⟨Nat.le_of_ble_eq_true rfl, Nat.le_of_ble_eq_true rfl⟩ rfl (Nat.le_of_ble_eq_true rfl) dX5_toldLiving_6 (fun r_6 σ_6 H locs hf M => ?_)
  obtain ⟨hft, hff⟩ := hf
  refine lv_if_ne (tgt := 14) hx hb dX5_toldLiving_9 (by decide) (fun c1 => ?_) (fun c1 => ?_)
  · have hf := hft c1
    refine lv_iconst (v := 0) hx hb dX5_toldLiving_14 rfl ?_
    refine lv_istore_n (lv' := [(3, .int 0), (0, .ref o), (1, .int a1), (2, .int a2)]) hx hb dX5_toldLiving_15 rfl hl (by decide) rfl (fun ls hl => ?_)
    refine lv_iconst (v := 0) hx hb dX5_toldLiving_16 rfl ?_
    refine lv_istore (lv' := [(4, .int 0), (3, .int 0), (0, .ref o), (1, .int a1), (2, .int a2)]) hx hb dX5_toldLiving_17 hl (by decide) rfl (fun ls hl => ?_)
    obtain ⟨nn, hf⟩ := hf
    exact B19 nn a2 0 0 σ_6 _ _ _ M (lv_sub hl [2, 4, 1, 0] rfl) hf
  · have hf := hff c1
    refine lv_iconst (v := (-1)) hx hb dX5_toldLiving_12 rfl ?_
    exact hret _ _ _ _ _ _ dX5_toldLiving_13 M hf
def hw_after_b65 : Nat → Int32 → hm_S → (Int32 → hm_S → Prop) → Prop
  | 0, _, _, _ => False
  | n65 + 1, v1_65, σ65, Q => vp_in 0 346 ∧ (((hm_gA σ65 6 0) ≤ v1_65 → vp_in 102 346 ∧ (hw_back  σ65 (fun σ_105 => (Q (hm_gA σ65 6 102) σ_105)))) ∧ (¬ (hm_gA σ65 6 0) ≤ v1_65 → vp_in (105 + v1_65) 346 ∧ (vp_in v1_65 12 ∧ (hw_after_b65  n65 (v1_65 + 1) (hm_sA σ65 28 v1_65 (hm_gA σ65 6 (105 + v1_65))) Q))))
def hw_after_b30 : Nat → Int32 → hm_S → (Int32 → hm_S → Prop) → Prop
  | 0, _, _, _ => False
  | n30 + 1, v1_30, σ30, Q => ((hm_gI σ30 3) ≤ v1_30 → vp_in 0 346 ∧ (∃ n, hw_after_b65  n 0 (hm_sI σ30 29 (hm_gA σ30 6 0)) Q)) ∧ (¬ (hm_gI σ30 3) ≤ v1_30 → hw_octet v1_30 σ30 (fun r_41 σ_41 => (hw_dies r_41 σ_41 (fun σ_44 => (hw_after_b30  n30 (v1_30 + 1) σ_44 Q)))))
def hw_after  (σ : hm_S) (Q : Int32 → hm_S → Prop) : Prop := hw_taken 940 (hm_sI σ 0 0) (fun σ_9 => (hw_toldLiving 6 (-1) σ_9 (fun r_16 σ_16 => ((0 ≤ r_16 → hw_tries  σ_16 (fun σ_25 => (∃ n, hw_after_b30  n 0 σ_25 Q))) ∧ (¬ 0 ≤ r_16 → Q (-1) σ_16)))))
set_option maxHeartbeats 4000000 in
set_option maxRecDepth 100000 in
theorem hk_after (l : Launch) (D : va_G) (dA : Nat → ClassId) (o : Nat) (b : Nat → Nat) (hB : hm_D dA o b)  (σ : hm_S) {Q : Int32 → hm_S → Prop} (hf : hw_after  σ Q) : Met l yX5_after (ws_ yX5_after cX5_after 2 (some .int)) (hb_R 7 164) (va_Pc [.ref o] (hm_U D dA o b σ)) (va_Qi Q (hm_U D dA o b) (hm_A o b)) 0 0 (hm_A o b) := by
  refine hm_Mi hB (LV := [(0, .ref o)]) (by decide) rfl (Nat.le_of_ble_eq_true rfl) (fun p e s m args below meth c ls QQ C M hl hret => ?_)
  have hx := C.1.1
  have hb := C.1.2.1
  have B65 : ∀ (n65 : Nat) (v1_65 : Int32) (σ65 : hm_S) (H : Heap) (locs : List Loc) (ls : Array Slot), hm_M D dA o b s.heap σ65 H locs → lv_has ls 2 [(0, .ref o), (1, .int v1_65)] → hw_after_b65  n65 v1_65 σ65 Q → W p l e (hb_R 7 164) s m args below meth c H locs 0 0 QQ (F0 m 65 ls []) := by
    intro n65
    induction n65 with
    | zero => intro v1_65 σ65 H locs ls M hl hf; exact hf.elim
    | succ n65 ih65 =>
      intro v1_65 σ65 H locs ls M hl hf
      refine lv_iload_n hx hb dX5_after_65 rfl (lv_at hl 1 rfl) ?_
      refine lv_aload_n hx hb dX5_after_66 rfl (lv_at hl 0 rfl) ?_
      refine hm_get C M 6 (by decide) q2073 (v := .ref (b 6)) rfl dX5_after_67 ?_
      refine lv_iconst (v := 0) hx hb dX5_after_70 rfl ?_
      obtain ⟨g1, hf⟩ := hf
      refine hm_ald6 C M g1 dX5_after_71 ?_
      obtain ⟨hft, hff⟩ := hf
      refine lv_icmp_ge (tgt := 96) hx hb dX5_after_72 (by decide) (fun c1 => ?_) (fun c1 => ?_)
      · have hf := hft c1
        refine lv_aload_n hx hb dX5_after_96 rfl (lv_at hl 0 rfl) ?_
        refine hm_get C M 6 (by decide) q2073 (v := .ref (b 6)) rfl dX5_after_97 ?_
        refine lv_bipush (v := 102) hx hb dX5_after_100 rfl ?_
        obtain ⟨g1, hf⟩ := hf
        refine hm_ald6 C M g1 dX5_after_102 ?_
        refine lv_istore_n (lv' := [(1, .int (hm_gA σ65 6 102)), (0, .ref o)]) hx hb dX5_after_103 rfl hl (by decide) rfl (fun ls hl => ?_)
        refine lv_aload_n hx hb dX5_after_104 rfl (lv_at hl 1 rfl) ?_
        refine hm_cv C M hl.1 (As := []) (rest := []) (hk_back l D dA o b hB  σ65 hf) (n := 0) q2508 q2510 qs100 q140 q2511 (by decide +kernel) rfl ⟨Nat.le_of_ble_eq_true rfl, Nat.le_of_ble_eq_true rfl⟩ rfl (Nat.le_of_ble_eq_true rfl) dX5_after_105 (fun σ_105 H locs hf M => ?_)
        refine lv_iload_n hx hb dX5_after_108 rfl (lv_at hl 0 rfl) ?_
        exact hret _ _ _ _ _ _ dX5_after_109 M hf
      · have hf := hff c1
        refine lv_aload_n hx hb dX5_after_75 rfl (lv_at hl 0 rfl) ?_
        refine hm_get C M 28 (by decide) q2095 (v := .ref (b 28)) rfl dX5_after_76 ?_
        refine lv_iload_n hx hb dX5_after_79 rfl (lv_at hl 1 rfl) ?_
        refine lv_aload_n hx hb dX5_after_80 rfl (lv_at hl 0 rfl) ?_
        refine hm_get C M 6 (by decide) q2073 (v := .ref (b 6)) rfl dX5_after_81 ?_
        refine lv_bipush (v := 105) hx hb dX5_after_84 rfl ?_
        refine lv_iload_n hx hb dX5_after_86 rfl (lv_at hl 1 rfl) ?_
        refine lv_iadd hx hb dX5_after_87 ?_
        obtain ⟨g1, hf⟩ := hf
        refine hm_ald6 C M g1 dX5_after_88 ?_
        obtain ⟨g1, hf⟩ := hf
        refine hm_ast28 C M g1 dX5_after_89 (fun H locs M => ?_)
        refine lv_iinc (v := v1_65 + 1) (lv' := [(1, .int (v1_65 + 1)), (0, .ref o)]) hx hb dX5_after_90 hl (k := 1) rfl rfl (by decide) rfl (fun ls hl => ?_)
        refine lv_goto (tgt := 65) hx hb dX5_after_93 (by decide) ?_
        exact ih65 (v1_65 + 1) (hm_sA σ65 28 v1_65 (hm_gA σ65 6 (105 + v1_65))) _ _ _ M (lv_sub hl [1, 0] rfl) hf
  have B30 : ∀ (n30 : Nat) (v1_30 : Int32) (σ30 : hm_S) (H : Heap) (locs : List Loc) (ls : Array Slot), hm_M D dA o b s.heap σ30 H locs → lv_has ls 2 [(0, .ref o), (1, .int v1_30)] → hw_after_b30  n30 v1_30 σ30 Q → W p l e (hb_R 7 164) s m args below meth c H locs 0 0 QQ (F0 m 30 ls []) := by
    intro n30
    induction n30 with
    | zero => intro v1_30 σ30 H locs ls M hl hf; exact hf.elim
    | succ n30 ih30 =>
      intro v1_30 σ30 H locs ls M hl hf
      refine lv_iload_n hx hb dX5_after_30 rfl (lv_at hl 1 rfl) ?_
      refine lv_aload_n hx hb dX5_after_31 rfl (lv_at hl 0 rfl) ?_
      refine hm_get C M 3 (by decide) q2070 (v := .int (hm_gI σ30 3)) rfl dX5_after_32 ?_
      obtain ⟨hft, hff⟩ := hf
      refine lv_icmp_ge (tgt := 53) hx hb dX5_after_35 (by decide) (fun c1 => ?_) (fun c1 => ?_)
      · have hf := hft c1
        refine lv_aload_n hx hb dX5_after_53 rfl (lv_at hl 0 rfl) ?_
        refine lv_aload_n hx hb dX5_after_54 rfl (lv_at hl 0 rfl) ?_
        refine hm_get C M 6 (by decide) q2073 (v := .ref (b 6)) rfl dX5_after_55 ?_
        refine lv_iconst (v := 0) hx hb dX5_after_58 rfl ?_
        obtain ⟨g1, hf⟩ := hf
        refine hm_ald6 C M g1 dX5_after_59 ?_
        refine hm_put29 C M q2096 dX5_after_60 (fun H locs M => ?_)
        refine lv_iconst (v := 0) hx hb dX5_after_63 rfl ?_
        refine lv_istore_n (lv' := [(1, .int 0), (0, .ref o)]) hx hb dX5_after_64 rfl hl (by decide) rfl (fun ls hl => ?_)
        obtain ⟨nn, hf⟩ := hf
        exact B65 nn 0 (hm_sI σ30 29 (hm_gA σ30 6 0)) _ _ _ M (lv_sub hl [1, 0] rfl) hf
      · have hf := hff c1
        refine lv_aload_n hx hb dX5_after_38 rfl (lv_at hl 0 rfl) ?_
        refine lv_aload_n hx hb dX5_after_39 rfl (lv_at hl 0 rfl) ?_
        refine lv_iload_n hx hb dX5_after_40 rfl (lv_at hl 1 rfl) ?_
        refine hm_ci C M hl.1 (As := [.int v1_30]) (rest := [.ref o]) (hk_octet l D dA o b hB v1_30 σ30 hf) (n := 1) q2520 q2522 qs102 q140 q2523 (by decide +kernel) rfl ⟨Nat.le_of_ble_eq_true rfl, Nat.le_of_ble_eq_true rfl⟩ rfl (Nat.le_of_ble_eq_true rfl) dX5_after_41 (fun r_41 σ_41 H locs hf M => ?_)
        refine hm_cv C M hl.1 (As := [.int r_41]) (rest := []) (hk_dies l D dA o b hB r_41 σ_41 hf) (n := 1) q2397 q2399 qs81 q140 q2400 (by decide +kernel) rfl ⟨Nat.le_of_ble_eq_true rfl, Nat.le_of_ble_eq_true rfl⟩ rfl (Nat.le_of_ble_eq_true rfl) dX5_after_44 (fun σ_44 H locs hf M => ?_)
        refine lv_iinc (v := v1_30 + 1) (lv' := [(1, .int (v1_30 + 1)), (0, .ref o)]) hx hb dX5_after_47 hl (k := 1) rfl rfl (by decide) rfl (fun ls hl => ?_)
        refine lv_goto (tgt := 30) hx hb dX5_after_50 (by decide) ?_
        exact ih30 (v1_30 + 1) σ_44 _ _ _ M (lv_sub hl [1, 0] rfl) hf
  refine lv_aload_n hx hb dX5_after_0 rfl (lv_at hl 0 rfl) ?_
  refine lv_iconst (v := 0) hx hb dX5_after_1 rfl ?_
  refine hm_put0 C M q2067 dX5_after_2 (fun H locs M => ?_)
  refine lv_aload_n hx hb dX5_after_5 rfl (lv_at hl 0 rfl) ?_
  refine lv_sipush (v := 940) hx hb dX5_after_6 rfl ?_
  refine hm_cv C M hl.1 (As := [.int 940]) (rest := []) (hk_taken l D dA o b hB 940 (hm_sI σ 0 0) hf) (n := 1) q2230 q2232 qs49 q140 q2233 (by decide +kernel) rfl ⟨Nat.le_of_ble_eq_true rfl, Nat.le_of_ble_eq_true rfl⟩ rfl (Nat.le_of_ble_eq_true rfl) dX5_after_9 (fun σ_9 H locs hf M => ?_)
  refine lv_aload_n hx hb dX5_after_12 rfl (lv_at hl 0 rfl) ?_
  refine lv_bipush (v := 6) hx hb dX5_after_13 rfl ?_
  refine lv_iconst (v := (-1)) hx hb dX5_after_15 rfl ?_
  refine hm_ci C M hl.1 (As := [.int 6, .int (-1)]) (rest := []) (hk_toldLiving l D dA o b hB 6 (-1) σ_9 hf) (n := 2) q2516 q2518 qs101 q140 q2519 (by decide +kernel) rfl ⟨Nat.le_of_ble_eq_true rfl, Nat.le_of_ble_eq_true rfl⟩ rfl (Nat.le_of_ble_eq_true rfl) dX5_after_16 (fun r_16 σ_16 H locs hf M => ?_)
  obtain ⟨hft, hff⟩ := hf
  refine lv_if_ge (tgt := 24) hx hb dX5_after_19 (by decide) (fun c1 => ?_) (fun c1 => ?_)
  · have hf := hft c1
    refine lv_aload_n hx hb dX5_after_24 rfl (lv_at hl 0 rfl) ?_
    refine hm_cv C M hl.1 (As := []) (rest := []) (hk_tries l D dA o b hB  σ_16 hf) (n := 0) q2504 q2506 qs99 q140 q2507 (by decide +kernel) rfl ⟨Nat.le_of_ble_eq_true rfl, Nat.le_of_ble_eq_true rfl⟩ rfl (Nat.le_of_ble_eq_true rfl) dX5_after_25 (fun σ_25 H locs hf M => ?_)
    refine lv_iconst (v := 0) hx hb dX5_after_28 rfl ?_
    refine lv_istore_n (lv' := [(1, .int 0), (0, .ref o)]) hx hb dX5_after_29 rfl hl (by decide) rfl (fun ls hl => ?_)
    obtain ⟨nn, hf⟩ := hf
    exact B30 nn 0 σ_25 _ _ _ M (lv_sub hl [1, 0] rfl) hf
  · have hf := hff c1
    refine lv_iconst (v := (-1)) hx hb dX5_after_22 rfl ?_
    exact hret _ _ _ _ _ _ dX5_after_23 M hf
def hw_afterOf (a1 : Int32) (σ : hm_S) (Q : Int32 → hm_S → Prop) : Prop := hw_isIn a1 0 ((hm_gI (hm_sI σ 0 0) 29) - 1) (hm_sI σ 0 0) (fun r_13 σ_13 => ((r_13 = 0 → Q (-1) σ_13) ∧ (¬ r_13 = 0 → vp_in a1 12 ∧ (Q (hm_gA σ_13 28 a1) σ_13))))
set_option maxHeartbeats 4000000 in
set_option maxRecDepth 100000 in
theorem hk_afterOf (l : Launch) (D : va_G) (dA : Nat → ClassId) (o : Nat) (b : Nat → Nat) (hB : hm_D dA o b) (a1 : Int32) (σ : hm_S) {Q : Int32 → hm_S → Prop} (hf : hw_afterOf a1 σ Q) : Met l yX5_afterOf (ws_ yX5_afterOf cX5_afterOf 2 (some .int)) (hb_R 1 22) (va_Pc [.ref o, .int a1] (hm_U D dA o b σ)) (va_Qi Q (hm_U D dA o b) (hm_A o b)) 0 0 (hm_A o b) := by
  refine hm_Mi hB (LV := [(0, .ref o), (1, .int a1)]) (by decide) rfl (Nat.le_of_ble_eq_true rfl) (fun p e s m args below meth c ls QQ C M hl hret => ?_)
  have hx := C.1.1
  have hb := C.1.2.1
  refine lv_aload_n hx hb dX5_afterOf_0 rfl (lv_at hl 0 rfl) ?_
  refine lv_iconst (v := 0) hx hb dX5_afterOf_1 rfl ?_
  refine hm_put0 C M q2067 dX5_afterOf_2 (fun H locs M => ?_)
  refine lv_iload_n hx hb dX5_afterOf_5 rfl (lv_at hl 1 rfl) ?_
  refine lv_iconst (v := 0) hx hb dX5_afterOf_6 rfl ?_
  refine lv_aload_n hx hb dX5_afterOf_7 rfl (lv_at hl 0 rfl) ?_
  refine hm_get C M 29 (by decide) q2096 (v := .int (hm_gI (hm_sI σ 0 0) 29)) rfl dX5_afterOf_8 ?_
  refine lv_iconst (v := 1) hx hb dX5_afterOf_11 rfl ?_
  refine lv_isub hx hb dX5_afterOf_12 ?_
  refine hm_csi C M hl.1 (As := [.int a1, .int 0, .int ((hm_gI (hm_sI σ 0 0) 29) - 1)]) (rest := []) (hk_isIn l D dA o b hB a1 0 ((hm_gI (hm_sI σ 0 0) 29) - 1) (hm_sI σ 0 0) hf) (n := 3) q2280 q2281 q140 q2282 (by decide +kernel) rfl ⟨Nat.le_of_ble_eq_true rfl, Nat.le_of_ble_eq_true rfl⟩ rfl (Nat.le_of_ble_eq_true rfl) dX5_afterOf_13 (fun r_13 σ_13 H locs hf M => ?_)
  obtain ⟨hft, hff⟩ := hf
  refine lv_if_eq (tgt := 28) hx hb dX5_afterOf_16 (by decide) (fun c1 => ?_) (fun c1 => ?_)
  · have hf := hft c1
    refine lv_iconst (v := (-1)) hx hb dX5_afterOf_28 rfl ?_
    exact hret _ _ _ _ _ _ dX5_afterOf_29 M hf
  · have hf := hff c1
    refine lv_aload_n hx hb dX5_afterOf_19 rfl (lv_at hl 0 rfl) ?_
    refine hm_get C M 28 (by decide) q2095 (v := .ref (b 28)) rfl dX5_afterOf_20 ?_
    refine lv_iload_n hx hb dX5_afterOf_23 rfl (lv_at hl 1 rfl) ?_
    obtain ⟨g1, hf⟩ := hf
    refine hm_ald28 C M g1 dX5_afterOf_24 ?_
    refine lv_goto (tgt := 29) hx hb dX5_afterOf_25 (by decide) ?_
    exact hret _ _ _ _ _ _ dX5_afterOf_29 M hf
def hw_placeIn_b4 : Nat → Int32 → Int32 → Int32 → hm_S → (Int32 → hm_S → Prop) → Prop
  | 0, _, _, _, _, _ => False
  | n4 + 1, v1_4, v2_4, v3_4, σ4, Q => (v1_4 ≤ v3_4 → Q (v2_4 - v2_4 / 12 * 12) σ4) ∧ (¬ v1_4 ≤ v3_4 → hw_placeIn_b4  n4 v1_4 (v2_4 / 12) (v3_4 + 1) σ4 Q)
def hw_placeIn (a0 : Int32) (a1 : Int32) (σ : hm_S) (Q : Int32 → hm_S → Prop) : Prop := ∃ n, hw_placeIn_b4  n a1 a0 0 σ Q
set_option maxHeartbeats 4000000 in
set_option maxRecDepth 100000 in
theorem hk_placeIn (l : Launch) (D : va_G) (dA : Nat → ClassId) (o : Nat) (b : Nat → Nat) (hB : hm_D dA o b) (a0 : Int32) (a1 : Int32) (σ : hm_S) {Q : Int32 → hm_S → Prop} (hf : hw_placeIn a0 a1 σ Q) : Met l yX5_placeIn (ws_ yX5_placeIn cX5_placeIn 4 (some .int)) (hb_R 0 0) (va_Pc [.int a0, .int a1] (hm_U D dA o b σ)) (va_Qi Q (hm_U D dA o b) (hm_A o b)) 0 0 (hm_A o b) := by
  refine hm_Mi hB (LV := [(0, .int a0), (1, .int a1)]) (by decide) rfl (Nat.le_of_ble_eq_true rfl) (fun p e s m args below meth c ls QQ C M hl hret => ?_)
  have hx := C.1.1
  have hb := C.1.2.1
  have B4 : ∀ (n4 : Nat) (v1_4 : Int32) (v2_4 : Int32) (v3_4 : Int32) (σ4 : hm_S) (H : Heap) (locs : List Loc) (ls : Array Slot), hm_M D dA o b s.heap σ4 H locs → lv_has ls 4 [(1, .int v1_4), (2, .int v2_4), (3, .int v3_4)] → hw_placeIn_b4  n4 v1_4 v2_4 v3_4 σ4 Q → W p l e (hb_R 0 0) s m args below meth c H locs 0 0 QQ (F0 m 4 ls []) := by
    intro n4
    induction n4 with
    | zero => intro v1_4 v2_4 v3_4 σ4 H locs ls M hl hf; exact hf.elim
    | succ n4 ih4 =>
      intro v1_4 v2_4 v3_4 σ4 H locs ls M hl hf
      refine lv_iload_n hx hb dX5_placeIn_4 rfl (lv_at hl 2 rfl) ?_
      refine lv_iload_n hx hb dX5_placeIn_5 rfl (lv_at hl 0 rfl) ?_
      obtain ⟨hft, hff⟩ := hf
      refine lv_icmp_ge (tgt := 20) hx hb dX5_placeIn_6 (by decide) (fun c1 => ?_) (fun c1 => ?_)
      · have hf := hft c1
        refine lv_iload_n hx hb dX5_placeIn_20 rfl (lv_at hl 1 rfl) ?_
        refine lv_bipush (v := 12) hx hb dX5_placeIn_21 rfl ?_
        refine lv_irem hx hb dX5_placeIn_23 (by decide) ?_
        exact hret _ _ _ _ _ _ dX5_placeIn_24 M hf
      · have hf := hff c1
        refine lv_iload_n hx hb dX5_placeIn_9 rfl (lv_at hl 1 rfl) ?_
        refine lv_bipush (v := 12) hx hb dX5_placeIn_10 rfl ?_
        refine lv_idiv hx hb dX5_placeIn_12 (by decide) ?_
        refine lv_istore_n (lv' := [(2, .int (v2_4 / 12)), (1, .int v1_4), (3, .int v3_4)]) hx hb dX5_placeIn_13 rfl hl (by decide) rfl (fun ls hl => ?_)
        refine lv_iinc (v := v3_4 + 1) (lv' := [(3, .int (v3_4 + 1)), (2, .int (v2_4 / 12)), (1, .int v1_4)]) hx hb dX5_placeIn_14 hl (k := 2) rfl rfl (by decide) rfl (fun ls hl => ?_)
        refine lv_goto (tgt := 4) hx hb dX5_placeIn_17 (by decide) ?_
        exact ih4 v1_4 (v2_4 / 12) (v3_4 + 1) σ4 _ _ _ M (lv_sub hl [2, 1, 0] rfl) hf
  refine lv_iload_n hx hb dX5_placeIn_0 rfl (lv_at hl 0 rfl) ?_
  refine lv_istore_n (lv' := [(2, .int a0), (0, .int a0), (1, .int a1)]) hx hb dX5_placeIn_1 rfl hl (by decide) rfl (fun ls hl => ?_)
  refine lv_iconst (v := 0) hx hb dX5_placeIn_2 rfl ?_
  refine lv_istore_n (lv' := [(3, .int 0), (2, .int a0), (0, .int a0), (1, .int a1)]) hx hb dX5_placeIn_3 rfl hl (by decide) rfl (fun ls hl => ?_)
  obtain ⟨nn, hf⟩ := hf
  exact B4 nn a1 a0 0 σ _ _ _ M (lv_sub hl [3, 1, 0] rfl) hf
def hw_isRow_b5 : Nat → Int32 → Int32 → Int32 → Int32 → hm_S → (Int32 → hm_S → Prop) → Prop
  | 0, _, _, _, _, _, _ => False
  | n5 + 1, v0_5, v2_5, v3_5, v4_5, σ5, Q => (v2_5 ≤ v4_5 → (¬ v3_5 = 0 → Q 0 σ5) ∧ (v3_5 = 0 → Q 1 σ5)) ∧ (¬ v2_5 ≤ v4_5 → hw_placeIn v0_5 v4_5 σ5 (fun r_15 σ_15 => (hw_bitOf v3_5 r_15 σ_15 (fun r_18 σ_18 => ((¬ r_18 = 0 → hw_placeIn v0_5 v4_5 σ_18 (fun r_31 σ_31 => (hw_isRow_b5  n5 v0_5 v2_5 (v3_5 &&& (((1 : Int32) <<< (r_31 &&& 31)) ^^^ (-1))) (v4_5 + 1) σ_31 Q))) ∧ (r_18 = 0 → Q 0 σ_18))))))
def hw_isRow (a0 : Int32) (a1 : Int32) (a2 : Int32) (σ : hm_S) (Q : Int32 → hm_S → Prop) : Prop := ∃ n, hw_isRow_b5  n a0 a2 a1 0 σ Q
set_option maxHeartbeats 4000000 in
set_option maxRecDepth 100000 in
theorem hk_isRow (l : Launch) (D : va_G) (dA : Nat → ClassId) (o : Nat) (b : Nat → Nat) (hB : hm_D dA o b) (a0 : Int32) (a1 : Int32) (a2 : Int32) (σ : hm_S) {Q : Int32 → hm_S → Prop} (hf : hw_isRow a0 a1 a2 σ Q) : Met l yX5_isRow (ws_ yX5_isRow cX5_isRow 5 (some .boolean)) (hb_R 1 23) (va_Pc [.int a0, .int a1, .int a2] (hm_U D dA o b σ)) (va_Qi Q (hm_U D dA o b) (hm_A o b)) 0 0 (hm_A o b) := by
  refine hm_Mz hB (LV := [(0, .int a0), (1, .int a1), (2, .int a2)]) (by decide) rfl (Nat.le_of_ble_eq_true rfl) (fun p e s m args below meth c ls QQ C M hl hret => ?_)
  have hx := C.1.1
  have hb := C.1.2.1
  have B5 : ∀ (n5 : Nat) (v0_5 : Int32) (v2_5 : Int32) (v3_5 : Int32) (v4_5 : Int32) (σ5 : hm_S) (H : Heap) (locs : List Loc) (ls : Array Slot), hm_M D dA o b s.heap σ5 H locs → lv_has ls 5 [(0, .int v0_5), (2, .int v2_5), (3, .int v3_5), (4, .int v4_5)] → hw_isRow_b5  n5 v0_5 v2_5 v3_5 v4_5 σ5 Q → W p l e (hb_R 1 23) s m args below meth c H locs 0 0 QQ (F0 m 5 ls []) := by
    intro n5
    induction n5 with
    | zero => intro v0_5 v2_5 v3_5 v4_5 σ5 H locs ls M hl hf; exact hf.elim
    | succ n5 ih5 =>
      intro v0_5 v2_5 v3_5 v4_5 σ5 H locs ls M hl hf
      refine lv_iload hx hb dX5_isRow_5 (lv_at hl 3 rfl) ?_
      refine lv_iload_n hx hb dX5_isRow_7 rfl (lv_at hl 1 rfl) ?_
      obtain ⟨hft, hff⟩ := hf
      refine lv_icmp_ge (tgt := 45) hx hb dX5_isRow_8 (by decide) (fun c1 => ?_) (fun c1 => ?_)
      · have hf := hft c1
        refine lv_iload_n hx hb dX5_isRow_45 rfl (lv_at hl 2 rfl) ?_
        obtain ⟨hft, hff⟩ := hf
        refine lv_if_ne (tgt := 53) hx hb dX5_isRow_46 (by decide) (fun c1 => ?_) (fun c1 => ?_)
        · have hf := hft c1
          refine lv_iconst (v := 0) hx hb dX5_isRow_53 rfl ?_
          exact hret _ _ _ _ _ _ dX5_isRow_54 M hb_B0 hf
        · have hf := hff c1
          refine lv_iconst (v := 1) hx hb dX5_isRow_49 rfl ?_
          refine lv_goto (tgt := 54) hx hb dX5_isRow_50 (by decide) ?_
          exact hret _ _ _ _ _ _ dX5_isRow_54 M hb_B1 hf
      · have hf := hff c1
        refine lv_iload_n hx hb dX5_isRow_11 rfl (lv_at hl 2 rfl) ?_
        refine lv_iload_n hx hb dX5_isRow_12 rfl (lv_at hl 0 rfl) ?_
        refine lv_iload hx hb dX5_isRow_13 (lv_at hl 3 rfl) ?_
        refine hm_csi C M hl.1 (As := [.int v0_5, .int v4_5]) (rest := [.int v3_5]) (hk_placeIn l D dA o b hB v0_5 v4_5 σ5 hf) (n := 2) q2538 q2539 q140 q2540 (by decide +kernel) rfl ⟨Nat.le_of_ble_eq_true rfl, Nat.le_of_ble_eq_true rfl⟩ rfl (Nat.le_of_ble_eq_true rfl) dX5_isRow_15 (fun r_15 σ_15 H locs hf M => ?_)
        refine hm_csi C M hl.1 (As := [.int v3_5, .int r_15]) (rest := []) (hk_bitOf l D dA o b hB v3_5 r_15 σ_15 hf) (n := 2) q2294 q2295 q140 q2296 (by decide +kernel) rfl ⟨Nat.le_of_ble_eq_true rfl, Nat.le_of_ble_eq_true rfl⟩ rfl (Nat.le_of_ble_eq_true rfl) dX5_isRow_18 (fun r_18 σ_18 H locs hf M => ?_)
        obtain ⟨hft, hff⟩ := hf
        refine lv_if_ne (tgt := 26) hx hb dX5_isRow_21 (by decide) (fun c1 => ?_) (fun c1 => ?_)
        · have hf := hft c1
          refine lv_iload_n hx hb dX5_isRow_26 rfl (lv_at hl 2 rfl) ?_
          refine lv_iconst (v := 1) hx hb dX5_isRow_27 rfl ?_
          refine lv_iload_n hx hb dX5_isRow_28 rfl (lv_at hl 0 rfl) ?_
          refine lv_iload hx hb dX5_isRow_29 (lv_at hl 3 rfl) ?_
          refine hm_csi C M hl.1 (As := [.int v0_5, .int v4_5]) (rest := [.int 1, .int v3_5]) (hk_placeIn l D dA o b hB v0_5 v4_5 σ_18 hf) (n := 2) q2538 q2539 q140 q2540 (by decide +kernel) rfl ⟨Nat.le_of_ble_eq_true rfl, Nat.le_of_ble_eq_true rfl⟩ rfl (Nat.le_of_ble_eq_true rfl) dX5_isRow_31 (fun r_31 σ_31 H locs hf M => ?_)
          refine lv_ishl hx hb dX5_isRow_34 ?_
          refine lv_iconst (v := (-1)) hx hb dX5_isRow_35 rfl ?_
          refine lv_ixor hx hb dX5_isRow_36 ?_
          refine lv_iand hx hb dX5_isRow_37 ?_
          refine lv_istore_n (lv' := [(3, .int (v3_5 &&& (((1 : Int32) <<< (r_31 &&& 31)) ^^^ (-1)))), (0, .int v0_5), (2, .int v2_5), (4, .int v4_5)]) hx hb dX5_isRow_38 rfl hl (by decide) rfl (fun ls hl => ?_)
          refine lv_iinc (v := v4_5 + 1) (lv' := [(4, .int (v4_5 + 1)), (3, .int (v3_5 &&& (((1 : Int32) <<< (r_31 &&& 31)) ^^^ (-1)))), (0, .int v0_5), (2, .int v2_5)]) hx hb dX5_isRow_39 hl (k := 3) rfl rfl (by decide) rfl (fun ls hl => ?_)
          refine lv_goto (tgt := 5) hx hb dX5_isRow_42 (by decide) ?_
          exact ih5 v0_5 v2_5 (v3_5 &&& (((1 : Int32) <<< (r_31 &&& 31)) ^^^ (-1))) (v4_5 + 1) σ_31 _ _ _ M (lv_sub hl [2, 3, 1, 0] rfl) hf
        · have hf := hff c1
          refine lv_iconst (v := 0) hx hb dX5_isRow_24 rfl ?_
          exact hret _ _ _ _ _ _ dX5_isRow_25 M hb_B0 hf
  refine lv_iload_n hx hb dX5_isRow_0 rfl (lv_at hl 1 rfl) ?_
  refine lv_istore_n (lv' := [(3, .int a1), (0, .int a0), (1, .int a1), (2, .int a2)]) hx hb dX5_isRow_1 rfl hl (by decide) rfl (fun ls hl => ?_)
  refine lv_iconst (v := 0) hx hb dX5_isRow_2 rfl ?_
  refine lv_istore (lv' := [(4, .int 0), (3, .int a1), (0, .int a0), (1, .int a1), (2, .int a2)]) hx hb dX5_isRow_3 hl (by decide) rfl (fun ls hl => ?_)
  obtain ⟨nn, hf⟩ := hf
  exact B5 nn a0 a2 a1 0 σ _ _ _ M (lv_sub hl [2, 4, 1, 0] rfl) hf
def hw_nextRow_b3 : Nat → Int32 → Int32 → Int32 → Int32 → hm_S → (Int32 → hm_S → Prop) → Prop
  | 0, _, _, _, _, _, _ => False
  | n3 + 1, v1_3, v2_3, v3_3, v4_3, σ3, Q => (v3_3 ≤ v4_3 → Q v4_3 σ3) ∧ (¬ v3_3 ≤ v4_3 → hw_isRow v4_3 v1_3 v2_3 σ3 (fun r_13 σ_13 => ((¬ r_13 = 0 → Q v4_3 σ_13) ∧ (r_13 = 0 → hw_nextRow_b3  n3 v1_3 v2_3 v3_3 (v4_3 + 1) σ_13 Q))))
def hw_nextRow (a0 : Int32) (a1 : Int32) (a2 : Int32) (a3 : Int32) (σ : hm_S) (Q : Int32 → hm_S → Prop) : Prop := ∃ n, hw_nextRow_b3  n a1 a2 a3 a0 σ Q
set_option maxHeartbeats 4000000 in
set_option maxRecDepth 100000 in
theorem hk_nextRow (l : Launch) (D : va_G) (dA : Nat → ClassId) (o : Nat) (b : Nat → Nat) (hB : hm_D dA o b) (a0 : Int32) (a1 : Int32) (a2 : Int32) (a3 : Int32) (σ : hm_S) {Q : Int32 → hm_S → Prop} (hf : hw_nextRow a0 a1 a2 a3 σ Q) : Met l yX5_nextRow (ws_ yX5_nextRow cX5_nextRow 5 (some .int)) (hb_R 2 47) (va_Pc [.int a0, .int a1, .int a2, .int a3] (hm_U D dA o b σ)) (va_Qi Q (hm_U D dA o b) (hm_A o b)) 0 0 (hm_A o b) := by
  refine hm_Mi hB (LV := [(0, .int a0), (1, .int a1), (2, .int a2), (3, .int a3)]) (by decide) rfl (Nat.le_of_ble_eq_true rfl) (fun p e s m args below meth c ls QQ C M hl hret => ?_)
  have hx := C.1.1
  have hb := C.1.2.1
  have B3 : ∀ (n3 : Nat) (v1_3 : Int32) (v2_3 : Int32) (v3_3 : Int32) (v4_3 : Int32) (σ3 : hm_S) (H : Heap) (locs : List Loc) (ls : Array Slot), hm_M D dA o b s.heap σ3 H locs → lv_has ls 5 [(1, .int v1_3), (2, .int v2_3), (3, .int v3_3), (4, .int v4_3)] → hw_nextRow_b3  n3 v1_3 v2_3 v3_3 v4_3 σ3 Q → W p l e (hb_R 2 47) s m args below meth c H locs 0 0 QQ (F0 m 3 ls []) := by
    intro n3
    induction n3 with
    | zero => intro v1_3 v2_3 v3_3 v4_3 σ3 H locs ls M hl hf; exact hf.elim
    | succ n3 ih3 =>
      intro v1_3 v2_3 v3_3 v4_3 σ3 H locs ls M hl hf
      refine lv_iload hx hb dX5_nextRow_3 (lv_at hl 3 rfl) ?_
      refine lv_iload_n hx hb dX5_nextRow_5 rfl (lv_at hl 2 rfl) ?_
      obtain ⟨hft, hff⟩ := hf
      refine lv_icmp_ge (tgt := 25) hx hb dX5_nextRow_6 (by decide) (fun c1 => ?_) (fun c1 => ?_)
      · have hf := hft c1
        refine lv_iload hx hb dX5_nextRow_25 (lv_at hl 3 rfl) ?_
        exact hret _ _ _ _ _ _ dX5_nextRow_27 M hf
      · have hf := hff c1
        refine lv_iload hx hb dX5_nextRow_9 (lv_at hl 3 rfl) ?_
        refine lv_iload_n hx hb dX5_nextRow_11 rfl (lv_at hl 0 rfl) ?_
        refine lv_iload_n hx hb dX5_nextRow_12 rfl (lv_at hl 1 rfl) ?_
        refine hm_csi C M hl.1 (As := [.int v4_3, .int v1_3, .int v2_3]) (rest := []) (hk_isRow l D dA o b hB v4_3 v1_3 v2_3 σ3 hf) (n := 3) q2535 q2536 q140 q2537 (by decide +kernel) rfl ⟨Nat.le_of_ble_eq_true rfl, Nat.le_of_ble_eq_true rfl⟩ rfl (Nat.le_of_ble_eq_true rfl) dX5_nextRow_13 (fun r_13 σ_13 H locs hf M => ?_)
        obtain ⟨hft, hff⟩ := hf
        refine lv_if_ne (tgt := 25) hx hb dX5_nextRow_16 (by decide) (fun c1 => ?_) (fun c1 => ?_)
        · have hf := hft c1
          refine lv_iload hx hb dX5_nextRow_25 (lv_at hl 3 rfl) ?_
          exact hret _ _ _ _ _ _ dX5_nextRow_27 M hf
        · have hf := hff c1
          refine lv_iinc (v := v4_3 + 1) (lv' := [(4, .int (v4_3 + 1)), (1, .int v1_3), (2, .int v2_3), (3, .int v3_3)]) hx hb dX5_nextRow_19 hl (k := 3) rfl rfl (by decide) rfl (fun ls hl => ?_)
          refine lv_goto (tgt := 3) hx hb dX5_nextRow_22 (by decide) ?_
          exact ih3 v1_3 v2_3 v3_3 (v4_3 + 1) σ_13 _ _ _ M (lv_sub hl [1, 2, 3, 0] rfl) hf
  refine lv_iload_n hx hb dX5_nextRow_0 rfl (lv_at hl 0 rfl) ?_
  refine lv_istore (lv' := [(4, .int a0), (0, .int a0), (1, .int a1), (2, .int a2), (3, .int a3)]) hx hb dX5_nextRow_1 hl (by decide) rfl (fun ls hl => ?_)
  obtain ⟨nn, hf⟩ := hf
  exact B3 nn a1 a2 a3 a0 σ _ _ _ M (lv_sub hl [2, 3, 4, 0] rfl) hf
def hw_best_b184 : Nat → Int32 → Int32 → Int32 → Int32 → hm_S → (Int32 → hm_S → Prop) → Prop
  | 0, _, _, _, _, _, _ => False
  | n184 + 1, v3_184, v5_184, v6_184, v7_184, σ184, Q => (v3_184 ≤ v7_184 → Q v5_184 σ184) ∧ (¬ v3_184 ≤ v7_184 → hw_placeIn v6_184 ((v3_184 - 1) - v7_184) σ184 (fun r_204 σ_204 => (vp_in v7_184 5 ∧ (hw_best_b184  n184 v3_184 v5_184 v6_184 (v7_184 + 1) (hm_sA σ_204 30 v7_184 r_204) Q))))
def hw_best_b105 (k93 : Int32 → Int32 → Int32 → Int32 → Int32 → Int32 → Int32 → hm_S → Prop) : Nat → Int32 → Int32 → Int32 → Int32 → Int32 → Int32 → Int32 → Int32 → hm_S → (Int32 → hm_S → Prop) → Prop
  | 0, _, _, _, _, _, _, _, _, _, _ => False
  | n105 + 1, v1_105, v2_105, v3_105, v4_105, v5_105, v6_105, v7_105, v8_105, σ105, Q => (v8_105 < 0 → vp_in (105 + v1_105) 346 ∧ (((hm_gA σ105 6 (105 + v1_105)) ≤ v5_105 → hw_back  σ105 (fun σ_157 => (hw_nextRow (v7_105 + 1) v2_105 v3_105 v4_105 σ_157 (fun r_168 σ_168 => (k93 v1_105 v2_105 v3_105 v4_105 v5_105 v6_105 r_168 σ_168))))) ∧ (¬ (hm_gA σ105 6 (105 + v1_105)) ≤ v5_105 → vp_in (105 + v1_105) 346 ∧ (hw_back  σ105 (fun σ_157 => (hw_nextRow (v7_105 + 1) v2_105 v3_105 v4_105 σ_157 (fun r_168 σ_168 => (k93 v1_105 v2_105 v3_105 v4_105 (hm_gA σ105 6 (105 + v1_105)) v7_105 r_168 σ_168)))))))) ∧ (¬ v8_105 < 0 → hw_placeIn v7_105 v8_105 σ105 (fun r_115 σ_115 => (hw_dies r_115 σ_115 (fun σ_118 => (hw_best_b105 k93 n105 v1_105 v2_105 v3_105 v4_105 v5_105 v6_105 v7_105 (v8_105 + (-1)) σ_118 Q)))))
def hw_best_b93 : Nat → Int32 → Int32 → Int32 → Int32 → Int32 → Int32 → Int32 → hm_S → (Int32 → hm_S → Prop) → Prop
  | 0, _, _, _, _, _, _, _, _, _ => False
  | n93 + 1, v1_93, v2_93, v3_93, v4_93, v5_93, v6_93, v7_93, σ93, Q => (v4_93 ≤ v7_93 → ∃ n, hw_best_b184  n v3_93 v5_93 v6_93 0 (hm_sI σ93 31 v3_93) Q) ∧ (¬ v4_93 ≤ v7_93 → ∃ n, hw_best_b105 (fun (u0 : Int32) (u1 : Int32) (u2 : Int32) (u3 : Int32) (u4 : Int32) (u5 : Int32) (u6 : Int32) (τ : hm_S) => hw_best_b93  n93 u0 u1 u2 u3 u4 u5 u6 τ Q) n v1_93 v2_93 v3_93 v4_93 v5_93 v6_93 v7_93 (v3_93 - 1) σ93 Q)
def hw_best_b54 : Nat → Int32 → Int32 → Int32 → Int32 → Int32 → hm_S → (Int32 → hm_S → Prop) → Prop
  | 0, _, _, _, _, _, _, _ => False
  | n54 + 1, v1_54, v2_54, v3_54, v4_54, v5_54, σ54, Q => (v3_54 ≤ v5_54 → hw_tries  σ54 (fun σ_80 => (hw_nextRow 0 v2_54 v3_54 v4_54 σ_80 (fun r_88 σ_88 => (∃ n, hw_best_b93  n v1_54 v2_54 v3_54 v4_54 (-1) 0 r_88 σ_88 Q))))) ∧ (¬ v3_54 ≤ v5_54 → hw_best_b54  n54 v1_54 v2_54 v3_54 (v4_54 * 12) (v5_54 + 1) σ54 Q)
def hw_best (a1 : Int32) (σ : hm_S) (Q : Int32 → hm_S → Prop) : Prop := hw_taken 940 (hm_sI σ 0 0) (fun σ_9 => (hw_isPerson a1 σ_9 (fun r_14 σ_14 => ((r_14 = 0 → Q (-1) σ_14) ∧ (¬ r_14 = 0 → hw_isLiving a1 σ_14 (fun r_22 σ_22 => ((¬ r_22 = 0 → hw_toldLiving 5 a1 σ_22 (fun r_33 σ_33 => ((0 ≤ r_33 → ∃ n, hw_best_b54  n a1 r_33 (hm_gI σ_33 3) 1 0 σ_33 Q) ∧ (¬ 0 ≤ r_33 → Q (-1) σ_33)))) ∧ (r_22 = 0 → Q (-1) σ_22))))))))
set_option maxHeartbeats 4000000 in
set_option maxRecDepth 100000 in
theorem hk_best (l : Launch) (D : va_G) (dA : Nat → ClassId) (o : Nat) (b : Nat → Nat) (hB : hm_D dA o b) (a1 : Int32) (σ : hm_S) {Q : Int32 → hm_S → Prop} (hf : hw_best a1 σ Q) : Met l yX5_best (ws_ yX5_best cX5_best 9 (some .int)) (hb_R 7 164) (va_Pc [.ref o, .int a1] (hm_U D dA o b σ)) (va_Qi Q (hm_U D dA o b) (hm_A o b)) 0 0 (hm_A o b) := by
  refine hm_Mi hB (LV := [(0, .ref o), (1, .int a1)]) (by decide) rfl (Nat.le_of_ble_eq_true rfl) (fun p e s m args below meth c ls QQ C M hl hret => ?_)
  have hx := C.1.1
  have hb := C.1.2.1
  have B184 : ∀ (n184 : Nat) (v3_184 : Int32) (v5_184 : Int32) (v6_184 : Int32) (v7_184 : Int32) (σ184 : hm_S) (H : Heap) (locs : List Loc) (ls : Array Slot), hm_M D dA o b s.heap σ184 H locs → lv_has ls 9 [(0, .ref o), (3, .int v3_184), (5, .int v5_184), (6, .int v6_184), (7, .int v7_184)] → hw_best_b184  n184 v3_184 v5_184 v6_184 v7_184 σ184 Q → W p l e (hb_R 7 164) s m args below meth c H locs 0 0 QQ (F0 m 184 ls []) := by
    intro n184
    induction n184 with
    | zero => intro v3_184 v5_184 v6_184 v7_184 σ184 H locs ls M hl hf; exact hf.elim
    | succ n184 ih184 =>
      intro v3_184 v5_184 v6_184 v7_184 σ184 H locs ls M hl hf
      refine lv_iload hx hb dX5_best_184 (lv_at hl 4 rfl) ?_
      refine lv_iload_n hx hb dX5_best_186 rfl (lv_at hl 1 rfl) ?_
      obtain ⟨hft, hff⟩ := hf
      refine lv_icmp_ge (tgt := 214) hx hb dX5_best_187 (by decide) (fun c1 => ?_) (fun c1 => ?_)
      · have hf := hft c1
        refine lv_iload hx hb dX5_best_214 (lv_at hl 2 rfl) ?_
        exact hret _ _ _ _ _ _ dX5_best_216 M hf
      · have hf := hff c1
        refine lv_aload_n hx hb dX5_best_190 rfl (lv_at hl 0 rfl) ?_
        refine hm_get C M 30 (by decide) q2097 (v := .ref (b 30)) rfl dX5_best_191 ?_
        refine lv_iload hx hb dX5_best_194 (lv_at hl 4 rfl) ?_
        refine lv_iload hx hb dX5_best_196 (lv_at hl 3 rfl) ?_
        refine lv_iload_n hx hb dX5_best_198 rfl (lv_at hl 1 rfl) ?_
        refine lv_iconst (v := 1) hx hb dX5_best_199 rfl ?_
        refine lv_isub hx hb dX5_best_200 ?_
        refine lv_iload hx hb dX5_best_201 (lv_at hl 4 rfl) ?_
        refine lv_isub hx hb dX5_best_203 ?_
        refine hm_csi C M hl.1 (As := [.int v6_184, .int ((v3_184 - 1) - v7_184)]) (rest := [.int v7_184, .ref (b 30)]) (hk_placeIn l D dA o b hB v6_184 ((v3_184 - 1) - v7_184) σ184 hf) (n := 2) q2538 q2539 q140 q2540 (by decide +kernel) rfl ⟨Nat.le_of_ble_eq_true rfl, Nat.le_of_ble_eq_true rfl⟩ rfl (Nat.le_of_ble_eq_true rfl) dX5_best_204 (fun r_204 σ_204 H locs hf M => ?_)
        obtain ⟨g1, hf⟩ := hf
        refine hm_ast30 C M g1 dX5_best_207 (fun H locs M => ?_)
        refine lv_iinc (v := v7_184 + 1) (lv' := [(7, .int (v7_184 + 1)), (0, .ref o), (3, .int v3_184), (5, .int v5_184), (6, .int v6_184)]) hx hb dX5_best_208 hl (k := 4) rfl rfl (by decide) rfl (fun ls hl => ?_)
        refine lv_goto (tgt := 184) hx hb dX5_best_211 (by decide) ?_
        exact ih184 v3_184 v5_184 v6_184 (v7_184 + 1) (hm_sA σ_204 30 v7_184 r_204) _ _ _ M (lv_sub hl [1, 2, 3, 4, 0] rfl) hf
  have B93 : ∀ (n93 : Nat) (v1_93 : Int32) (v2_93 : Int32) (v3_93 : Int32) (v4_93 : Int32) (v5_93 : Int32) (v6_93 : Int32) (v7_93 : Int32) (σ93 : hm_S) (H : Heap) (locs : List Loc) (ls : Array Slot), hm_M D dA o b s.heap σ93 H locs → lv_has ls 9 [(0, .ref o), (1, .int v1_93), (2, .int v2_93), (3, .int v3_93), (4, .int v4_93), (5, .int v5_93), (6, .int v6_93), (7, .int v7_93)] → hw_best_b93  n93 v1_93 v2_93 v3_93 v4_93 v5_93 v6_93 v7_93 σ93 Q → W p l e (hb_R 7 164) s m args below meth c H locs 0 0 QQ (F0 m 93 ls []) := by
    intro n93
    induction n93 with
    | zero => intro v1_93 v2_93 v3_93 v4_93 v5_93 v6_93 v7_93 σ93 H locs ls M hl hf; exact hf.elim
    | succ n93 ih93 =>
      have B105 : ∀ (n105 : Nat) (v1_105 : Int32) (v2_105 : Int32) (v3_105 : Int32) (v4_105 : Int32) (v5_105 : Int32) (v6_105 : Int32) (v7_105 : Int32) (v8_105 : Int32) (σ105 : hm_S) (H : Heap) (locs : List Loc) (ls : Array Slot), hm_M D dA o b s.heap σ105 H locs → lv_has ls 9 [(0, .ref o), (1, .int v1_105), (2, .int v2_105), (3, .int v3_105), (4, .int v4_105), (5, .int v5_105), (6, .int v6_105), (7, .int v7_105), (8, .int v8_105)] → hw_best_b105 (fun (u0 : Int32) (u1 : Int32) (u2 : Int32) (u3 : Int32) (u4 : Int32) (u5 : Int32) (u6 : Int32) (τ : hm_S) => hw_best_b93  n93 u0 u1 u2 u3 u4 u5 u6 τ Q) n105 v1_105 v2_105 v3_105 v4_105 v5_105 v6_105 v7_105 v8_105 σ105 Q → W p l e (hb_R 7 164) s m args below meth c H locs 0 0 QQ (F0 m 105 ls []) := by
        intro n105
        induction n105 with
        | zero => intro v1_105 v2_105 v3_105 v4_105 v5_105 v6_105 v7_105 v8_105 σ105 H locs ls M hl hf; exact hf.elim
        | succ n105 ih105 =>
          intro v1_105 v2_105 v3_105 v4_105 v5_105 v6_105 v7_105 v8_105 σ105 H locs ls M hl hf
          refine lv_iload hx hb dX5_best_105 (lv_at hl 8 rfl) ?_
          obtain ⟨hft, hff⟩ := hf
          refine lv_if_lt (tgt := 127) hx hb dX5_best_107 (by decide) (fun c1 => ?_) (fun c1 => ?_)
          · have hf := hft c1
            refine lv_aload_n hx hb dX5_best_127 rfl (lv_at hl 0 rfl) ?_
            refine hm_get C M 6 (by decide) q2073 (v := .ref (b 6)) rfl dX5_best_128 ?_
            refine lv_bipush (v := 105) hx hb dX5_best_131 rfl ?_
            refine lv_iload_n hx hb dX5_best_133 rfl (lv_at hl 1 rfl) ?_
            refine lv_iadd hx hb dX5_best_134 ?_
            obtain ⟨g1, hf⟩ := hf
            refine hm_ald6 C M g1 dX5_best_135 ?_
            refine lv_iload hx hb dX5_best_136 (lv_at hl 5 rfl) ?_
            obtain ⟨hft, hff⟩ := hf
            refine lv_icmp_le (tgt := 156) hx hb dX5_best_138 (by decide) (fun c1 => ?_) (fun c1 => ?_)
            · have hf := hft c1
              refine lv_aload_n hx hb dX5_best_156 rfl (lv_at hl 0 rfl) ?_
              refine hm_cv C M hl.1 (As := []) (rest := []) (hk_back l D dA o b hB  σ105 hf) (n := 0) q2508 q2510 qs100 q140 q2511 (by decide +kernel) rfl ⟨Nat.le_of_ble_eq_true rfl, Nat.le_of_ble_eq_true rfl⟩ rfl (Nat.le_of_ble_eq_true rfl) dX5_best_157 (fun σ_157 H locs hf M => ?_)
              refine lv_iload hx hb dX5_best_160 (lv_at hl 7 rfl) ?_
              refine lv_iconst (v := 1) hx hb dX5_best_162 rfl ?_
              refine lv_iadd hx hb dX5_best_163 ?_
              refine lv_iload_n hx hb dX5_best_164 rfl (lv_at hl 2 rfl) ?_
              refine lv_iload_n hx hb dX5_best_165 rfl (lv_at hl 3 rfl) ?_
              refine lv_iload hx hb dX5_best_166 (lv_at hl 4 rfl) ?_
              refine hm_csi C M hl.1 (As := [.int (v7_105 + 1), .int v2_105, .int v3_105, .int v4_105]) (rest := []) (hk_nextRow l D dA o b hB (v7_105 + 1) v2_105 v3_105 v4_105 σ_157 hf) (n := 4) q2532 q2533 q140 q2534 (by decide +kernel) rfl ⟨Nat.le_of_ble_eq_true rfl, Nat.le_of_ble_eq_true rfl⟩ rfl (Nat.le_of_ble_eq_true rfl) dX5_best_168 (fun r_168 σ_168 H locs hf M => ?_)
              refine lv_istore (lv' := [(7, .int r_168), (0, .ref o), (1, .int v1_105), (2, .int v2_105), (3, .int v3_105), (4, .int v4_105), (5, .int v5_105), (6, .int v6_105), (8, .int v8_105)]) hx hb dX5_best_171 hl (by decide) rfl (fun ls hl => ?_)
              refine lv_goto (tgt := 93) hx hb dX5_best_173 (by decide) ?_
              exact ih93 v1_105 v2_105 v3_105 v4_105 v5_105 v6_105 r_168 σ_168 _ _ _ M (lv_sub hl [1, 2, 3, 4, 5, 6, 7, 0] rfl) hf
            · have hf := hff c1
              refine lv_aload_n hx hb dX5_best_141 rfl (lv_at hl 0 rfl) ?_
              refine hm_get C M 6 (by decide) q2073 (v := .ref (b 6)) rfl dX5_best_142 ?_
              refine lv_bipush (v := 105) hx hb dX5_best_145 rfl ?_
              refine lv_iload_n hx hb dX5_best_147 rfl (lv_at hl 1 rfl) ?_
              refine lv_iadd hx hb dX5_best_148 ?_
              obtain ⟨g1, hf⟩ := hf
              refine hm_ald6 C M g1 dX5_best_149 ?_
              refine lv_istore (lv' := [(5, .int (hm_gA σ105 6 (105 + v1_105))), (0, .ref o), (1, .int v1_105), (2, .int v2_105), (3, .int v3_105), (4, .int v4_105), (6, .int v6_105), (7, .int v7_105), (8, .int v8_105)]) hx hb dX5_best_150 hl (by decide) rfl (fun ls hl => ?_)
              refine lv_iload hx hb dX5_best_152 (lv_at hl 7 rfl) ?_
              refine lv_istore (lv' := [(6, .int v7_105), (5, .int (hm_gA σ105 6 (105 + v1_105))), (0, .ref o), (1, .int v1_105), (2, .int v2_105), (3, .int v3_105), (4, .int v4_105), (7, .int v7_105), (8, .int v8_105)]) hx hb dX5_best_154 hl (by decide) rfl (fun ls hl => ?_)
              refine lv_aload_n hx hb dX5_best_156 rfl (lv_at hl 2 rfl) ?_
              refine hm_cv C M hl.1 (As := []) (rest := []) (hk_back l D dA o b hB  σ105 hf) (n := 0) q2508 q2510 qs100 q140 q2511 (by decide +kernel) rfl ⟨Nat.le_of_ble_eq_true rfl, Nat.le_of_ble_eq_true rfl⟩ rfl (Nat.le_of_ble_eq_true rfl) dX5_best_157 (fun σ_157 H locs hf M => ?_)
              refine lv_iload hx hb dX5_best_160 (lv_at hl 7 rfl) ?_
              refine lv_iconst (v := 1) hx hb dX5_best_162 rfl ?_
              refine lv_iadd hx hb dX5_best_163 ?_
              refine lv_iload_n hx hb dX5_best_164 rfl (lv_at hl 4 rfl) ?_
              refine lv_iload_n hx hb dX5_best_165 rfl (lv_at hl 5 rfl) ?_
              refine lv_iload hx hb dX5_best_166 (lv_at hl 6 rfl) ?_
              refine hm_csi C M hl.1 (As := [.int (v7_105 + 1), .int v2_105, .int v3_105, .int v4_105]) (rest := []) (hk_nextRow l D dA o b hB (v7_105 + 1) v2_105 v3_105 v4_105 σ_157 hf) (n := 4) q2532 q2533 q140 q2534 (by decide +kernel) rfl ⟨Nat.le_of_ble_eq_true rfl, Nat.le_of_ble_eq_true rfl⟩ rfl (Nat.le_of_ble_eq_true rfl) dX5_best_168 (fun r_168 σ_168 H locs hf M => ?_)
              refine lv_istore (lv' := [(7, .int r_168), (6, .int v7_105), (5, .int (hm_gA σ105 6 (105 + v1_105))), (0, .ref o), (1, .int v1_105), (2, .int v2_105), (3, .int v3_105), (4, .int v4_105), (8, .int v8_105)]) hx hb dX5_best_171 hl (by decide) rfl (fun ls hl => ?_)
              refine lv_goto (tgt := 93) hx hb dX5_best_173 (by decide) ?_
              exact ih93 v1_105 v2_105 v3_105 v4_105 (hm_gA σ105 6 (105 + v1_105)) v7_105 r_168 σ_168 _ _ _ M (lv_sub hl [3, 4, 5, 6, 7, 2, 1, 0] rfl) hf
          · have hf := hff c1
            refine lv_aload_n hx hb dX5_best_110 rfl (lv_at hl 0 rfl) ?_
            refine lv_iload hx hb dX5_best_111 (lv_at hl 7 rfl) ?_
            refine lv_iload hx hb dX5_best_113 (lv_at hl 8 rfl) ?_
            refine hm_csi C M hl.1 (As := [.int v7_105, .int v8_105]) (rest := [.ref o]) (hk_placeIn l D dA o b hB v7_105 v8_105 σ105 hf) (n := 2) q2538 q2539 q140 q2540 (by decide +kernel) rfl ⟨Nat.le_of_ble_eq_true rfl, Nat.le_of_ble_eq_true rfl⟩ rfl (Nat.le_of_ble_eq_true rfl) dX5_best_115 (fun r_115 σ_115 H locs hf M => ?_)
            refine hm_cv C M hl.1 (As := [.int r_115]) (rest := []) (hk_dies l D dA o b hB r_115 σ_115 hf) (n := 1) q2397 q2399 qs81 q140 q2400 (by decide +kernel) rfl ⟨Nat.le_of_ble_eq_true rfl, Nat.le_of_ble_eq_true rfl⟩ rfl (Nat.le_of_ble_eq_true rfl) dX5_best_118 (fun σ_118 H locs hf M => ?_)
            refine lv_iinc (v := v8_105 + (-1)) (lv' := [(8, .int (v8_105 + (-1))), (0, .ref o), (1, .int v1_105), (2, .int v2_105), (3, .int v3_105), (4, .int v4_105), (5, .int v5_105), (6, .int v6_105), (7, .int v7_105)]) hx hb dX5_best_121 hl (k := 8) rfl rfl (by decide) rfl (fun ls hl => ?_)
            refine lv_goto (tgt := 105) hx hb dX5_best_124 (by decide) ?_
            exact ih105 v1_105 v2_105 v3_105 v4_105 v5_105 v6_105 v7_105 (v8_105 + (-1)) σ_118 _ _ _ M (lv_sub hl [1, 2, 3, 4, 5, 6, 7, 8, 0] rfl) hf
      intro v1_93 v2_93 v3_93 v4_93 v5_93 v6_93 v7_93 σ93 H locs ls M hl hf
      refine lv_iload hx hb dX5_best_93 (lv_at hl 7 rfl) ?_
      refine lv_iload hx hb dX5_best_95 (lv_at hl 4 rfl) ?_
      obtain ⟨hft, hff⟩ := hf
      refine lv_icmp_ge (tgt := 176) hx hb dX5_best_97 (by decide) (fun c1 => ?_) (fun c1 => ?_)
      · have hf := hft c1
        refine lv_aload_n hx hb dX5_best_176 rfl (lv_at hl 0 rfl) ?_
        refine lv_iload_n hx hb dX5_best_177 rfl (lv_at hl 3 rfl) ?_
        refine hm_put31 C M q2098 dX5_best_178 (fun H locs M => ?_)
        refine lv_iconst (v := 0) hx hb dX5_best_181 rfl ?_
        refine lv_istore (lv' := [(7, .int 0), (0, .ref o), (1, .int v1_93), (2, .int v2_93), (3, .int v3_93), (4, .int v4_93), (5, .int v5_93), (6, .int v6_93)]) hx hb dX5_best_182 hl (by decide) rfl (fun ls hl => ?_)
        obtain ⟨nn, hf⟩ := hf
        exact B184 nn v3_93 v5_93 v6_93 0 (hm_sI σ93 31 v3_93) _ _ _ M (lv_sub hl [1, 4, 6, 7, 0] rfl) hf
      · have hf := hff c1
        refine lv_iload_n hx hb dX5_best_100 rfl (lv_at hl 3 rfl) ?_
        refine lv_iconst (v := 1) hx hb dX5_best_101 rfl ?_
        refine lv_isub hx hb dX5_best_102 ?_
        refine lv_istore (lv' := [(8, .int (v3_93 - 1)), (0, .ref o), (1, .int v1_93), (2, .int v2_93), (3, .int v3_93), (4, .int v4_93), (5, .int v5_93), (6, .int v6_93), (7, .int v7_93)]) hx hb dX5_best_103 hl (by decide) rfl (fun ls hl => ?_)
        obtain ⟨nn, hf⟩ := hf
        exact B105 nn v1_93 v2_93 v3_93 v4_93 v5_93 v6_93 v7_93 (v3_93 - 1) σ93 _ _ _ M (lv_sub hl [1, 2, 3, 4, 5, 6, 7, 8, 0] rfl) hf
  have B54 : ∀ (n54 : Nat) (v1_54 : Int32) (v2_54 : Int32) (v3_54 : Int32) (v4_54 : Int32) (v5_54 : Int32) (σ54 : hm_S) (H : Heap) (locs : List Loc) (ls : Array Slot), hm_M D dA o b s.heap σ54 H locs → lv_has ls 9 [(0, .ref o), (1, .int v1_54), (2, .int v2_54), (3, .int v3_54), (4, .int v4_54), (5, .int v5_54)] → hw_best_b54  n54 v1_54 v2_54 v3_54 v4_54 v5_54 σ54 Q → W p l e (hb_R 7 164) s m args below meth c H locs 0 0 QQ (F0 m 54 ls []) := by
    intro n54
    induction n54 with
    | zero => intro v1_54 v2_54 v3_54 v4_54 v5_54 σ54 H locs ls M hl hf; exact hf.elim
    | succ n54 ih54 =>
      intro v1_54 v2_54 v3_54 v4_54 v5_54 σ54 H locs ls M hl hf
      refine lv_iload hx hb dX5_best_54 (lv_at hl 5 rfl) ?_
      refine lv_iload_n hx hb dX5_best_56 rfl (lv_at hl 3 rfl) ?_
      obtain ⟨hft, hff⟩ := hf
      refine lv_icmp_ge (tgt := 73) hx hb dX5_best_57 (by decide) (fun c1 => ?_) (fun c1 => ?_)
      · have hf := hft c1
        refine lv_iconst (v := (-1)) hx hb dX5_best_73 rfl ?_
        refine lv_istore (lv' := [(5, .int (-1)), (0, .ref o), (1, .int v1_54), (2, .int v2_54), (3, .int v3_54), (4, .int v4_54)]) hx hb dX5_best_74 hl (by decide) rfl (fun ls hl => ?_)
        refine lv_iconst (v := 0) hx hb dX5_best_76 rfl ?_
        refine lv_istore (lv' := [(6, .int 0), (5, .int (-1)), (0, .ref o), (1, .int v1_54), (2, .int v2_54), (3, .int v3_54), (4, .int v4_54)]) hx hb dX5_best_77 hl (by decide) rfl (fun ls hl => ?_)
        refine lv_aload_n hx hb dX5_best_79 rfl (lv_at hl 2 rfl) ?_
        refine hm_cv C M hl.1 (As := []) (rest := []) (hk_tries l D dA o b hB  σ54 hf) (n := 0) q2504 q2506 qs99 q140 q2507 (by decide +kernel) rfl ⟨Nat.le_of_ble_eq_true rfl, Nat.le_of_ble_eq_true rfl⟩ rfl (Nat.le_of_ble_eq_true rfl) dX5_best_80 (fun σ_80 H locs hf M => ?_)
        refine lv_iconst (v := 0) hx hb dX5_best_83 rfl ?_
        refine lv_iload_n hx hb dX5_best_84 rfl (lv_at hl 4 rfl) ?_
        refine lv_iload_n hx hb dX5_best_85 rfl (lv_at hl 5 rfl) ?_
        refine lv_iload hx hb dX5_best_86 (lv_at hl 6 rfl) ?_
        refine hm_csi C M hl.1 (As := [.int 0, .int v2_54, .int v3_54, .int v4_54]) (rest := []) (hk_nextRow l D dA o b hB 0 v2_54 v3_54 v4_54 σ_80 hf) (n := 4) q2532 q2533 q140 q2534 (by decide +kernel) rfl ⟨Nat.le_of_ble_eq_true rfl, Nat.le_of_ble_eq_true rfl⟩ rfl (Nat.le_of_ble_eq_true rfl) dX5_best_88 (fun r_88 σ_88 H locs hf M => ?_)
        refine lv_istore (lv' := [(7, .int r_88), (6, .int 0), (5, .int (-1)), (0, .ref o), (1, .int v1_54), (2, .int v2_54), (3, .int v3_54), (4, .int v4_54)]) hx hb dX5_best_91 hl (by decide) rfl (fun ls hl => ?_)
        obtain ⟨nn, hf⟩ := hf
        exact B93 nn v1_54 v2_54 v3_54 v4_54 (-1) 0 r_88 σ_88 _ _ _ M (lv_sub hl [3, 4, 5, 6, 7, 2, 1, 0] rfl) hf
      · have hf := hff c1
        refine lv_iload hx hb dX5_best_60 (lv_at hl 4 rfl) ?_
        refine lv_bipush (v := 12) hx hb dX5_best_62 rfl ?_
        refine lv_imul hx hb dX5_best_64 ?_
        refine lv_istore (lv' := [(4, .int (v4_54 * 12)), (0, .ref o), (1, .int v1_54), (2, .int v2_54), (3, .int v3_54), (5, .int v5_54)]) hx hb dX5_best_65 hl (by decide) rfl (fun ls hl => ?_)
        refine lv_iinc (v := v5_54 + 1) (lv' := [(5, .int (v5_54 + 1)), (4, .int (v4_54 * 12)), (0, .ref o), (1, .int v1_54), (2, .int v2_54), (3, .int v3_54)]) hx hb dX5_best_67 hl (k := 5) rfl rfl (by decide) rfl (fun ls hl => ?_)
        refine lv_goto (tgt := 54) hx hb dX5_best_70 (by decide) ?_
        exact ih54 v1_54 v2_54 v3_54 (v4_54 * 12) (v5_54 + 1) σ54 _ _ _ M (lv_sub hl [2, 3, 4, 5, 1, 0] rfl) hf
  refine lv_aload_n hx hb dX5_best_0 rfl (lv_at hl 0 rfl) ?_
  refine lv_iconst (v := 0) hx hb dX5_best_1 rfl ?_
  refine hm_put0 C M q2067 dX5_best_2 (fun H locs M => ?_)
  refine lv_aload_n hx hb dX5_best_5 rfl (lv_at hl 0 rfl) ?_
  refine lv_sipush (v := 940) hx hb dX5_best_6 rfl ?_
  refine hm_cv C M hl.1 (As := [.int 940]) (rest := []) (hk_taken l D dA o b hB 940 (hm_sI σ 0 0) hf) (n := 1) q2230 q2232 qs49 q140 q2233 (by decide +kernel) rfl ⟨Nat.le_of_ble_eq_true rfl, Nat.le_of_ble_eq_true rfl⟩ rfl (Nat.le_of_ble_eq_true rfl) dX5_best_9 (fun σ_9 H locs hf M => ?_)
  refine lv_aload_n hx hb dX5_best_12 rfl (lv_at hl 0 rfl) ?_
  refine lv_iload_n hx hb dX5_best_13 rfl (lv_at hl 1 rfl) ?_
  refine hm_ci C M hl.1 (As := [.int a1]) (rest := []) (hk_isPerson l D dA o b hB a1 σ_9 hf) (n := 1) q2333 q2335 qs69 q140 q2336 (by decide +kernel) rfl ⟨Nat.le_of_ble_eq_true rfl, Nat.le_of_ble_eq_true rfl⟩ rfl (Nat.le_of_ble_eq_true rfl) dX5_best_14 (fun r_14 σ_14 H locs hf M => ?_)
  obtain ⟨hft, hff⟩ := hf
  refine lv_if_eq (tgt := 28) hx hb dX5_best_17 (by decide) (fun c1 => ?_) (fun c1 => ?_)
  · have hf := hft c1
    refine lv_iconst (v := (-1)) hx hb dX5_best_28 rfl ?_
    exact hret _ _ _ _ _ _ dX5_best_29 M hf
  · have hf := hff c1
    refine lv_aload_n hx hb dX5_best_20 rfl (lv_at hl 0 rfl) ?_
    refine lv_iload_n hx hb dX5_best_21 rfl (lv_at hl 1 rfl) ?_
    refine hm_ci C M hl.1 (As := [.int a1]) (rest := []) (hk_isLiving l D dA o b hB a1 σ_14 hf) (n := 1) q2341 q2343 qs71 q140 q2344 (by decide +kernel) rfl ⟨Nat.le_of_ble_eq_true rfl, Nat.le_of_ble_eq_true rfl⟩ rfl (Nat.le_of_ble_eq_true rfl) dX5_best_22 (fun r_22 σ_22 H locs hf M => ?_)
    obtain ⟨hft, hff⟩ := hf
    refine lv_if_ne (tgt := 30) hx hb dX5_best_25 (by decide) (fun c1 => ?_) (fun c1 => ?_)
    · have hf := hft c1
      refine lv_aload_n hx hb dX5_best_30 rfl (lv_at hl 0 rfl) ?_
      refine lv_iconst (v := 5) hx hb dX5_best_31 rfl ?_
      refine lv_iload_n hx hb dX5_best_32 rfl (lv_at hl 1 rfl) ?_
      refine hm_ci C M hl.1 (As := [.int 5, .int a1]) (rest := []) (hk_toldLiving l D dA o b hB 5 a1 σ_22 hf) (n := 2) q2516 q2518 qs101 q140 q2519 (by decide +kernel) rfl ⟨Nat.le_of_ble_eq_true rfl, Nat.le_of_ble_eq_true rfl⟩ rfl (Nat.le_of_ble_eq_true rfl) dX5_best_33 (fun r_33 σ_33 H locs hf M => ?_)
      refine lv_istore_n (lv' := [(2, .int r_33), (0, .ref o), (1, .int a1)]) hx hb dX5_best_36 rfl hl (by decide) rfl (fun ls hl => ?_)
      refine lv_iload_n hx hb dX5_best_37 rfl (lv_at hl 0 rfl) ?_
      obtain ⟨hft, hff⟩ := hf
      refine lv_if_ge (tgt := 43) hx hb dX5_best_38 (by decide) (fun c1 => ?_) (fun c1 => ?_)
      · have hf := hft c1
        refine lv_aload_n hx hb dX5_best_43 rfl (lv_at hl 1 rfl) ?_
        refine hm_get C M 3 (by decide) q2070 (v := .int (hm_gI σ_33 3)) rfl dX5_best_44 ?_
        refine lv_istore_n (lv' := [(3, .int (hm_gI σ_33 3)), (2, .int r_33), (0, .ref o), (1, .int a1)]) hx hb dX5_best_47 rfl hl (by decide) rfl (fun ls hl => ?_)
        refine lv_iconst (v := 1) hx hb dX5_best_48 rfl ?_
        refine lv_istore (lv' := [(4, .int 1), (3, .int (hm_gI σ_33 3)), (2, .int r_33), (0, .ref o), (1, .int a1)]) hx hb dX5_best_49 hl (by decide) rfl (fun ls hl => ?_)
        refine lv_iconst (v := 0) hx hb dX5_best_51 rfl ?_
        refine lv_istore (lv' := [(5, .int 0), (4, .int 1), (3, .int (hm_gI σ_33 3)), (2, .int r_33), (0, .ref o), (1, .int a1)]) hx hb dX5_best_52 hl (by decide) rfl (fun ls hl => ?_)
        obtain ⟨nn, hf⟩ := hf
        exact B54 nn a1 r_33 (hm_gI σ_33 3) 1 0 σ_33 _ _ _ M (lv_sub hl [4, 5, 3, 2, 1, 0] rfl) hf
      · have hf := hff c1
        refine lv_iconst (v := (-1)) hx hb dX5_best_41 rfl ?_
        exact hret _ _ _ _ _ _ dX5_best_42 M hf
    · have hf := hff c1
      refine lv_iconst (v := (-1)) hx hb dX5_best_28 rfl ?_
      exact hret _ _ _ _ _ _ dX5_best_29 M hf
def hw_bestAt (a1 : Int32) (σ : hm_S) (Q : Int32 → hm_S → Prop) : Prop := hw_isIn a1 0 ((hm_gI (hm_sI σ 0 0) 31) - 1) (hm_sI σ 0 0) (fun r_13 σ_13 => ((r_13 = 0 → Q (-1) σ_13) ∧ (¬ r_13 = 0 → vp_in a1 5 ∧ (Q (hm_gA σ_13 30 a1) σ_13))))
set_option maxHeartbeats 4000000 in
set_option maxRecDepth 100000 in
theorem hk_bestAt (l : Launch) (D : va_G) (dA : Nat → ClassId) (o : Nat) (b : Nat → Nat) (hB : hm_D dA o b) (a1 : Int32) (σ : hm_S) {Q : Int32 → hm_S → Prop} (hf : hw_bestAt a1 σ Q) : Met l yX5_bestAt (ws_ yX5_bestAt cX5_bestAt 2 (some .int)) (hb_R 1 22) (va_Pc [.ref o, .int a1] (hm_U D dA o b σ)) (va_Qi Q (hm_U D dA o b) (hm_A o b)) 0 0 (hm_A o b) := by
  refine hm_Mi hB (LV := [(0, .ref o), (1, .int a1)]) (by decide) rfl (Nat.le_of_ble_eq_true rfl) (fun p e s m args below meth c ls QQ C M hl hret => ?_)
  have hx := C.1.1
  have hb := C.1.2.1
  refine lv_aload_n hx hb dX5_bestAt_0 rfl (lv_at hl 0 rfl) ?_
  refine lv_iconst (v := 0) hx hb dX5_bestAt_1 rfl ?_
  refine hm_put0 C M q2067 dX5_bestAt_2 (fun H locs M => ?_)
  refine lv_iload_n hx hb dX5_bestAt_5 rfl (lv_at hl 1 rfl) ?_
  refine lv_iconst (v := 0) hx hb dX5_bestAt_6 rfl ?_
  refine lv_aload_n hx hb dX5_bestAt_7 rfl (lv_at hl 0 rfl) ?_
  refine hm_get C M 31 (by decide) q2098 (v := .int (hm_gI (hm_sI σ 0 0) 31)) rfl dX5_bestAt_8 ?_
  refine lv_iconst (v := 1) hx hb dX5_bestAt_11 rfl ?_
  refine lv_isub hx hb dX5_bestAt_12 ?_
  refine hm_csi C M hl.1 (As := [.int a1, .int 0, .int ((hm_gI (hm_sI σ 0 0) 31) - 1)]) (rest := []) (hk_isIn l D dA o b hB a1 0 ((hm_gI (hm_sI σ 0 0) 31) - 1) (hm_sI σ 0 0) hf) (n := 3) q2280 q2281 q140 q2282 (by decide +kernel) rfl ⟨Nat.le_of_ble_eq_true rfl, Nat.le_of_ble_eq_true rfl⟩ rfl (Nat.le_of_ble_eq_true rfl) dX5_bestAt_13 (fun r_13 σ_13 H locs hf M => ?_)
  obtain ⟨hft, hff⟩ := hf
  refine lv_if_eq (tgt := 28) hx hb dX5_bestAt_16 (by decide) (fun c1 => ?_) (fun c1 => ?_)
  · have hf := hft c1
    refine lv_iconst (v := (-1)) hx hb dX5_bestAt_28 rfl ?_
    exact hret _ _ _ _ _ _ dX5_bestAt_29 M hf
  · have hf := hff c1
    refine lv_aload_n hx hb dX5_bestAt_19 rfl (lv_at hl 0 rfl) ?_
    refine hm_get C M 30 (by decide) q2097 (v := .ref (b 30)) rfl dX5_bestAt_20 ?_
    refine lv_iload_n hx hb dX5_bestAt_23 rfl (lv_at hl 1 rfl) ?_
    obtain ⟨g1, hf⟩ := hf
    refine hm_ald30 C M g1 dX5_bestAt_24 ?_
    refine lv_goto (tgt := 29) hx hb dX5_bestAt_25 (by decide) ?_
    exact hret _ _ _ _ _ _ dX5_bestAt_29 M hf
def hw_clears_2_b3 : Nat → Int32 → Int32 → Int32 → Int32 → hm_S → (Int32 → hm_S → Prop) → Prop
  | 0, _, _, _, _, _, _ => False
  | n3 + 1, v1_3, v2_3, v3_3, v4_3, σ3, Q => vp_in 0 346 ∧ (((hm_gA σ3 6 0) ≤ v4_3 → vp_in (105 + v1_3) 346 ∧ (vp_in (105 + v2_3) 346 ∧ (hw_dies v1_3 σ3 (fun σ_59 => (((hm_gA σ3 6 (105 + v1_3)) ≤ 0 → hw_back  σ_59 (fun σ_92 => (Q 0 σ_92))) ∧ (¬ (hm_gA σ3 6 (105 + v1_3)) ≤ 0 → vp_in (105 + v2_3) 346 ∧ ((¬ ((hm_gA σ_59 6 (105 + v2_3)) - (hm_gA σ3 6 (105 + v2_3))) = (hm_gA σ3 6 (105 + v1_3)) → hw_back  σ_59 (fun σ_92 => (Q 0 σ_92))) ∧ (((hm_gA σ_59 6 (105 + v2_3)) - (hm_gA σ3 6 (105 + v2_3))) = (hm_gA σ3 6 (105 + v1_3)) → hw_back  σ_59 (fun σ_92 => (Q 1 σ_92)))))))))) ∧ (¬ (hm_gA σ3 6 0) ≤ v4_3 → hw_bitOf v3_3 v4_3 σ3 (fun r_17 σ_17 => ((r_17 = 0 → hw_clears_2_b3  n3 v1_3 v2_3 v3_3 (v4_3 + 1) σ_17 Q) ∧ (¬ r_17 = 0 → hw_dies v4_3 σ_17 (fun σ_26 => (hw_clears_2_b3  n3 v1_3 v2_3 v3_3 (v4_3 + 1) σ_26 Q)))))))
def hw_clears_2 (a1 : Int32) (a2 : Int32) (a3 : Int32) (σ : hm_S) (Q : Int32 → hm_S → Prop) : Prop := ∃ n, hw_clears_2_b3  n a1 a2 a3 0 σ Q
set_option maxHeartbeats 4000000 in
set_option maxRecDepth 100000 in
theorem hk_clears_2 (l : Launch) (D : va_G) (dA : Nat → ClassId) (o : Nat) (b : Nat → Nat) (hB : hm_D dA o b) (a1 : Int32) (a2 : Int32) (a3 : Int32) (σ : hm_S) {Q : Int32 → hm_S → Prop} (hf : hw_clears_2 a1 a2 a3 σ Q) : Met l yX5_clears_2 (ws_ yX5_clears_2 cX5_clears_2 7 (some .boolean)) (hb_R 7 164) (va_Pc [.ref o, .int a1, .int a2, .int a3] (hm_U D dA o b σ)) (va_Qi Q (hm_U D dA o b) (hm_A o b)) 0 0 (hm_A o b) := by
  refine hm_Mz hB (LV := [(0, .ref o), (1, .int a1), (2, .int a2), (3, .int a3)]) (by decide) rfl (Nat.le_of_ble_eq_true rfl) (fun p e s m args below meth c ls QQ C M hl hret => ?_)
  have hx := C.1.1
  have hb := C.1.2.1
  have B3 : ∀ (n3 : Nat) (v1_3 : Int32) (v2_3 : Int32) (v3_3 : Int32) (v4_3 : Int32) (σ3 : hm_S) (H : Heap) (locs : List Loc) (ls : Array Slot), hm_M D dA o b s.heap σ3 H locs → lv_has ls 7 [(0, .ref o), (1, .int v1_3), (2, .int v2_3), (3, .int v3_3), (4, .int v4_3)] → hw_clears_2_b3  n3 v1_3 v2_3 v3_3 v4_3 σ3 Q → W p l e (hb_R 7 164) s m args below meth c H locs 0 0 QQ (F0 m 3 ls []) := by
    intro n3
    induction n3 with
    | zero => intro v1_3 v2_3 v3_3 v4_3 σ3 H locs ls M hl hf; exact hf.elim
    | succ n3 ih3 =>
      intro v1_3 v2_3 v3_3 v4_3 σ3 H locs ls M hl hf
      refine lv_iload hx hb dX5_clears_2_3 (lv_at hl 4 rfl) ?_
      refine lv_aload_n hx hb dX5_clears_2_5 rfl (lv_at hl 0 rfl) ?_
      refine hm_get C M 6 (by decide) q2073 (v := .ref (b 6)) rfl dX5_clears_2_6 ?_
      refine lv_iconst (v := 0) hx hb dX5_clears_2_9 rfl ?_
      obtain ⟨g1, hf⟩ := hf
      refine hm_ald6 C M g1 dX5_clears_2_10 ?_
      obtain ⟨hft, hff⟩ := hf
      refine lv_icmp_ge (tgt := 35) hx hb dX5_clears_2_11 (by decide) (fun c1 => ?_) (fun c1 => ?_)
      · have hf := hft c1
        refine lv_aload_n hx hb dX5_clears_2_35 rfl (lv_at hl 0 rfl) ?_
        refine hm_get C M 6 (by decide) q2073 (v := .ref (b 6)) rfl dX5_clears_2_36 ?_
        refine lv_bipush (v := 105) hx hb dX5_clears_2_39 rfl ?_
        refine lv_iload_n hx hb dX5_clears_2_41 rfl (lv_at hl 1 rfl) ?_
        refine lv_iadd hx hb dX5_clears_2_42 ?_
        obtain ⟨g1, hf⟩ := hf
        refine hm_ald6 C M g1 dX5_clears_2_43 ?_
        refine lv_istore (lv' := [(4, .int (hm_gA σ3 6 (105 + v1_3))), (0, .ref o), (1, .int v1_3), (2, .int v2_3), (3, .int v3_3)]) hx hb dX5_clears_2_44 hl (by decide) rfl (fun ls hl => ?_)
        refine lv_aload_n hx hb dX5_clears_2_46 rfl (lv_at hl 1 rfl) ?_
        refine hm_get C M 6 (by decide) q2073 (v := .ref (b 6)) rfl dX5_clears_2_47 ?_
        refine lv_bipush (v := 105) hx hb dX5_clears_2_50 rfl ?_
        refine lv_iload_n hx hb dX5_clears_2_52 rfl (lv_at hl 3 rfl) ?_
        refine lv_iadd hx hb dX5_clears_2_53 ?_
        obtain ⟨g1, hf⟩ := hf
        refine hm_ald6 C M g1 dX5_clears_2_54 ?_
        refine lv_istore (lv' := [(5, .int (hm_gA σ3 6 (105 + v2_3))), (4, .int (hm_gA σ3 6 (105 + v1_3))), (0, .ref o), (1, .int v1_3), (2, .int v2_3), (3, .int v3_3)]) hx hb dX5_clears_2_55 hl (by decide) rfl (fun ls hl => ?_)
        refine lv_aload_n hx hb dX5_clears_2_57 rfl (lv_at hl 2 rfl) ?_
        refine lv_iload_n hx hb dX5_clears_2_58 rfl (lv_at hl 3 rfl) ?_
        refine hm_cv C M hl.1 (As := [.int v1_3]) (rest := []) (hk_dies l D dA o b hB v1_3 σ3 hf) (n := 1) q2397 q2399 qs81 q140 q2400 (by decide +kernel) rfl ⟨Nat.le_of_ble_eq_true rfl, Nat.le_of_ble_eq_true rfl⟩ rfl (Nat.le_of_ble_eq_true rfl) dX5_clears_2_59 (fun σ_59 H locs hf M => ?_)
        refine lv_iload hx hb dX5_clears_2_62 (lv_at hl 1 rfl) ?_
        obtain ⟨hft, hff⟩ := hf
        refine lv_if_le (tgt := 88) hx hb dX5_clears_2_64 (by decide) (fun c1 => ?_) (fun c1 => ?_)
        · have hf := hft c1
          refine lv_iconst (v := 0) hx hb dX5_clears_2_88 rfl ?_
          refine lv_istore (lv' := [(6, .int 0), (5, .int (hm_gA σ3 6 (105 + v2_3))), (4, .int (hm_gA σ3 6 (105 + v1_3))), (0, .ref o), (1, .int v1_3), (2, .int v2_3), (3, .int v3_3)]) hx hb dX5_clears_2_89 hl (by decide) rfl (fun ls hl => ?_)
          refine lv_aload_n hx hb dX5_clears_2_91 rfl (lv_at hl 3 rfl) ?_
          refine hm_cv C M hl.1 (As := []) (rest := []) (hk_back l D dA o b hB  σ_59 hf) (n := 0) q2508 q2510 qs100 q140 q2511 (by decide +kernel) rfl ⟨Nat.le_of_ble_eq_true rfl, Nat.le_of_ble_eq_true rfl⟩ rfl (Nat.le_of_ble_eq_true rfl) dX5_clears_2_92 (fun σ_92 H locs hf M => ?_)
          refine lv_iload hx hb dX5_clears_2_95 (lv_at hl 0 rfl) ?_
          exact hret _ _ _ _ _ _ dX5_clears_2_97 M hb_B0 hf
        · have hf := hff c1
          refine lv_aload_n hx hb dX5_clears_2_67 rfl (lv_at hl 2 rfl) ?_
          refine hm_get C M 6 (by decide) q2073 (v := .ref (b 6)) rfl dX5_clears_2_68 ?_
          refine lv_bipush (v := 105) hx hb dX5_clears_2_71 rfl ?_
          refine lv_iload_n hx hb dX5_clears_2_73 rfl (lv_at hl 4 rfl) ?_
          refine lv_iadd hx hb dX5_clears_2_74 ?_
          obtain ⟨g1, hf⟩ := hf
          refine hm_ald6 C M g1 dX5_clears_2_75 ?_
          refine lv_iload hx hb dX5_clears_2_76 (lv_at hl 0 rfl) ?_
          refine lv_isub hx hb dX5_clears_2_78 ?_
          refine lv_iload hx hb dX5_clears_2_79 (lv_at hl 1 rfl) ?_
          obtain ⟨hft, hff⟩ := hf
          refine lv_icmp_ne (tgt := 88) hx hb dX5_clears_2_81 (by decide) (fun c1 => ?_) (fun c1 => ?_)
          · have hf := hft c1
            refine lv_iconst (v := 0) hx hb dX5_clears_2_88 rfl ?_
            refine lv_istore (lv' := [(6, .int 0), (5, .int (hm_gA σ3 6 (105 + v2_3))), (4, .int (hm_gA σ3 6 (105 + v1_3))), (0, .ref o), (1, .int v1_3), (2, .int v2_3), (3, .int v3_3)]) hx hb dX5_clears_2_89 hl (by decide) rfl (fun ls hl => ?_)
            refine lv_aload_n hx hb dX5_clears_2_91 rfl (lv_at hl 3 rfl) ?_
            refine hm_cv C M hl.1 (As := []) (rest := []) (hk_back l D dA o b hB  σ_59 hf) (n := 0) q2508 q2510 qs100 q140 q2511 (by decide +kernel) rfl ⟨Nat.le_of_ble_eq_true rfl, Nat.le_of_ble_eq_true rfl⟩ rfl (Nat.le_of_ble_eq_true rfl) dX5_clears_2_92 (fun σ_92 H locs hf M => ?_)
            refine lv_iload hx hb dX5_clears_2_95 (lv_at hl 0 rfl) ?_
            exact hret _ _ _ _ _ _ dX5_clears_2_97 M hb_B0 hf
          · have hf := hff c1
            refine lv_iconst (v := 1) hx hb dX5_clears_2_84 rfl ?_
            refine lv_goto (tgt := 89) hx hb dX5_clears_2_85 (by decide) ?_
            refine lv_istore (lv' := [(6, .int 1), (5, .int (hm_gA σ3 6 (105 + v2_3))), (4, .int (hm_gA σ3 6 (105 + v1_3))), (0, .ref o), (1, .int v1_3), (2, .int v2_3), (3, .int v3_3)]) hx hb dX5_clears_2_89 hl (by decide) rfl (fun ls hl => ?_)
            refine lv_aload_n hx hb dX5_clears_2_91 rfl (lv_at hl 3 rfl) ?_
            refine hm_cv C M hl.1 (As := []) (rest := []) (hk_back l D dA o b hB  σ_59 hf) (n := 0) q2508 q2510 qs100 q140 q2511 (by decide +kernel) rfl ⟨Nat.le_of_ble_eq_true rfl, Nat.le_of_ble_eq_true rfl⟩ rfl (Nat.le_of_ble_eq_true rfl) dX5_clears_2_92 (fun σ_92 H locs hf M => ?_)
            refine lv_iload hx hb dX5_clears_2_95 (lv_at hl 0 rfl) ?_
            exact hret _ _ _ _ _ _ dX5_clears_2_97 M hb_B1 hf
      · have hf := hff c1
        refine lv_iload_n hx hb dX5_clears_2_14 rfl (lv_at hl 3 rfl) ?_
        refine lv_iload hx hb dX5_clears_2_15 (lv_at hl 4 rfl) ?_
        refine hm_csi C M hl.1 (As := [.int v3_3, .int v4_3]) (rest := []) (hk_bitOf l D dA o b hB v3_3 v4_3 σ3 hf) (n := 2) q2294 q2295 q140 q2296 (by decide +kernel) rfl ⟨Nat.le_of_ble_eq_true rfl, Nat.le_of_ble_eq_true rfl⟩ rfl (Nat.le_of_ble_eq_true rfl) dX5_clears_2_17 (fun r_17 σ_17 H locs hf M => ?_)
        obtain ⟨hft, hff⟩ := hf
        refine lv_if_eq (tgt := 29) hx hb dX5_clears_2_20 (by decide) (fun c1 => ?_) (fun c1 => ?_)
        · have hf := hft c1
          refine lv_iinc (v := v4_3 + 1) (lv' := [(4, .int (v4_3 + 1)), (0, .ref o), (1, .int v1_3), (2, .int v2_3), (3, .int v3_3)]) hx hb dX5_clears_2_29 hl (k := 4) rfl rfl (by decide) rfl (fun ls hl => ?_)
          refine lv_goto (tgt := 3) hx hb dX5_clears_2_32 (by decide) ?_
          exact ih3 v1_3 v2_3 v3_3 (v4_3 + 1) σ_17 _ _ _ M (lv_sub hl [1, 2, 3, 4, 0] rfl) hf
        · have hf := hff c1
          refine lv_aload_n hx hb dX5_clears_2_23 rfl (lv_at hl 0 rfl) ?_
          refine lv_iload hx hb dX5_clears_2_24 (lv_at hl 4 rfl) ?_
          refine hm_cv C M hl.1 (As := [.int v4_3]) (rest := []) (hk_dies l D dA o b hB v4_3 σ_17 hf) (n := 1) q2397 q2399 qs81 q140 q2400 (by decide +kernel) rfl ⟨Nat.le_of_ble_eq_true rfl, Nat.le_of_ble_eq_true rfl⟩ rfl (Nat.le_of_ble_eq_true rfl) dX5_clears_2_26 (fun σ_26 H locs hf M => ?_)
          refine lv_iinc (v := v4_3 + 1) (lv' := [(4, .int (v4_3 + 1)), (0, .ref o), (1, .int v1_3), (2, .int v2_3), (3, .int v3_3)]) hx hb dX5_clears_2_29 hl (k := 4) rfl rfl (by decide) rfl (fun ls hl => ?_)
          refine lv_goto (tgt := 3) hx hb dX5_clears_2_32 (by decide) ?_
          exact ih3 v1_3 v2_3 v3_3 (v4_3 + 1) σ_26 _ _ _ M (lv_sub hl [1, 2, 3, 4, 0] rfl) hf
  refine lv_iconst (v := 0) hx hb dX5_clears_2_0 rfl ?_
  refine lv_istore (lv' := [(4, .int 0), (0, .ref o), (1, .int a1), (2, .int a2), (3, .int a3)]) hx hb dX5_clears_2_1 hl (by decide) rfl (fun ls hl => ?_)
  obtain ⟨nn, hf⟩ := hf
  exact B3 nn a1 a2 a3 0 σ _ _ _ M (lv_sub hl [1, 2, 3, 4, 0] rfl) hf
def hw_clear_b95 (k59 : Int32 → Int32 → Int32 → Int32 → Int32 → hm_S → Prop) (v1_95 : Int32) (v2_95 : Int32) (v3_95 : Int32) (v4_95 : Int32) (v5_95 : Int32) (σ95 : hm_S) (Q : Int32 → hm_S → Prop) : Prop := hw_clears_2 v1_95 v2_95 v5_95 σ95 (fun r_100 σ_100 => ((r_100 = 0 → k59 v1_95 v2_95 v3_95 v4_95 (v5_95 + 1) σ_100) ∧ (¬ r_100 = 0 → k59 v1_95 v2_95 v3_95 v5_95 (v5_95 + 1) σ_100)))
def hw_clear_b59 : Nat → Int32 → Int32 → Int32 → Int32 → Int32 → hm_S → (Int32 → hm_S → Prop) → Prop
  | 0, _, _, _, _, _, _, _ => False
  | n59 + 1, v1_59, v2_59, v3_59, v4_59, v5_59, σ59, Q => (v3_59 < v5_59 → (0 ≤ v4_59 → hw_bits v4_59 (hm_sI (hm_sI σ59 33 1) 32 v4_59) (fun r_136 σ_136 => (Q r_136 σ_136))) ∧ (¬ 0 ≤ v4_59 → Q (-1) σ59)) ∧ (¬ v3_59 < v5_59 → (¬ (v5_59 &&& (v3_59 ^^^ (-1))) = 0 → hw_clear_b59  n59 v1_59 v2_59 v3_59 v4_59 (v5_59 + 1) σ59 Q) ∧ ((v5_59 &&& (v3_59 ^^^ (-1))) = 0 → (v4_59 < 0 → hw_clear_b95 (fun (u0 : Int32) (u1 : Int32) (u2 : Int32) (u3 : Int32) (u4 : Int32) (τ : hm_S) => hw_clear_b59  n59 u0 u1 u2 u3 u4 τ Q) v1_59 v2_59 v3_59 v4_59 v5_59 σ59 Q) ∧ (¬ v4_59 < 0 → hw_bits v5_59 σ59 (fun r_81 σ_81 => (hw_bits v4_59 σ_81 (fun r_86 σ_86 => ((r_81 < r_86 → hw_clear_b95 (fun (u0 : Int32) (u1 : Int32) (u2 : Int32) (u3 : Int32) (u4 : Int32) (τ : hm_S) => hw_clear_b59  n59 u0 u1 u2 u3 u4 τ Q) v1_59 v2_59 v3_59 v4_59 v5_59 σ_86 Q) ∧ (¬ r_81 < r_86 → hw_clear_b59  n59 v1_59 v2_59 v3_59 v4_59 (v5_59 + 1) σ_86 Q))))))))
def hw_clear (a1 : Int32) (a2 : Int32) (σ : hm_S) (Q : Int32 → hm_S → Prop) : Prop := hw_areTwo a1 a2 (hm_sI σ 0 0) (fun r_8 σ_8 => ((r_8 = 0 → Q (-1) σ_8) ∧ (¬ r_8 = 0 → hw_isLiving a1 σ_8 (fun r_16 σ_16 => ((r_16 = 0 → Q (-1) σ_16) ∧ (¬ r_16 = 0 → hw_isLiving a2 σ_16 (fun r_24 σ_24 => ((¬ r_24 = 0 → hw_living  σ_24 (fun r_33 σ_33 => (hw_tries  σ_33 (fun σ_53 => (∃ n, hw_clear_b59  n a1 a2 ((r_33 &&& (((1 : Int32) <<< (a1 &&& 31)) ^^^ (-1))) &&& (((1 : Int32) <<< (a2 &&& 31)) ^^^ (-1))) (-1) 0 σ_53 Q))))) ∧ (r_24 = 0 → Q (-1) σ_24)))))))))
set_option maxHeartbeats 4000000 in
set_option maxRecDepth 100000 in
theorem hk_clear (l : Launch) (D : va_G) (dA : Nat → ClassId) (o : Nat) (b : Nat → Nat) (hB : hm_D dA o b) (a1 : Int32) (a2 : Int32) (σ : hm_S) {Q : Int32 → hm_S → Prop} (hf : hw_clear a1 a2 σ Q) : Met l yX5_clear (ws_ yX5_clear cX5_clear 6 (some .int)) (hb_R 8 190) (va_Pc [.ref o, .int a1, .int a2] (hm_U D dA o b σ)) (va_Qi Q (hm_U D dA o b) (hm_A o b)) 0 0 (hm_A o b) := by
  refine hm_Mi hB (LV := [(0, .ref o), (1, .int a1), (2, .int a2)]) (by decide) rfl (Nat.le_of_ble_eq_true rfl) (fun p e s m args below meth c ls QQ C M hl hret => ?_)
  have hx := C.1.1
  have hb := C.1.2.1
  have B59 : ∀ (n59 : Nat) (v1_59 : Int32) (v2_59 : Int32) (v3_59 : Int32) (v4_59 : Int32) (v5_59 : Int32) (σ59 : hm_S) (H : Heap) (locs : List Loc) (ls : Array Slot), hm_M D dA o b s.heap σ59 H locs → lv_has ls 6 [(0, .ref o), (1, .int v1_59), (2, .int v2_59), (3, .int v3_59), (4, .int v4_59), (5, .int v5_59)] → hw_clear_b59  n59 v1_59 v2_59 v3_59 v4_59 v5_59 σ59 Q → W p l e (hb_R 8 190) s m args below meth c H locs 0 0 QQ (F0 m 59 ls []) := by
    intro n59
    induction n59 with
    | zero => intro v1_59 v2_59 v3_59 v4_59 v5_59 σ59 H locs ls M hl hf; exact hf.elim
    | succ n59 ih59 =>
      have B95 : ∀ (v1_95 : Int32) (v2_95 : Int32) (v3_95 : Int32) (v4_95 : Int32) (v5_95 : Int32) (σ95 : hm_S) (H : Heap) (locs : List Loc) (ls : Array Slot), hm_M D dA o b s.heap σ95 H locs → lv_has ls 6 [(0, .ref o), (1, .int v1_95), (2, .int v2_95), (3, .int v3_95), (4, .int v4_95), (5, .int v5_95)] → hw_clear_b95 (fun (u0 : Int32) (u1 : Int32) (u2 : Int32) (u3 : Int32) (u4 : Int32) (τ : hm_S) => hw_clear_b59  n59 u0 u1 u2 u3 u4 τ Q) v1_95 v2_95 v3_95 v4_95 v5_95 σ95 Q → W p l e (hb_R 8 190) s m args below meth c H locs 0 0 QQ (F0 m 95 ls []) := by
        intro v1_95 v2_95 v3_95 v4_95 v5_95 σ95 H locs ls M hl hf
        refine lv_aload_n hx hb dX5_clear_95 rfl (lv_at hl 0 rfl) ?_
        refine lv_iload_n hx hb dX5_clear_96 rfl (lv_at hl 1 rfl) ?_
        refine lv_iload_n hx hb dX5_clear_97 rfl (lv_at hl 2 rfl) ?_
        refine lv_iload hx hb dX5_clear_98 (lv_at hl 5 rfl) ?_
        refine hm_ci C M hl.1 (As := [.int v1_95, .int v2_95, .int v5_95]) (rest := []) (hk_clears_2 l D dA o b hB v1_95 v2_95 v5_95 σ95 hf) (n := 3) q2549 q2551 qs103 q140 q2552 (by decide +kernel) rfl ⟨Nat.le_of_ble_eq_true rfl, Nat.le_of_ble_eq_true rfl⟩ rfl (Nat.le_of_ble_eq_true rfl) dX5_clear_100 (fun r_100 σ_100 H locs hf M => ?_)
        obtain ⟨hft, hff⟩ := hf
        refine lv_if_eq (tgt := 110) hx hb dX5_clear_103 (by decide) (fun c1 => ?_) (fun c1 => ?_)
        · have hf := hft c1
          refine lv_iinc (v := v5_95 + 1) (lv' := [(5, .int (v5_95 + 1)), (0, .ref o), (1, .int v1_95), (2, .int v2_95), (3, .int v3_95), (4, .int v4_95)]) hx hb dX5_clear_110 hl (k := 5) rfl rfl (by decide) rfl (fun ls hl => ?_)
          refine lv_goto (tgt := 59) hx hb dX5_clear_113 (by decide) ?_
          exact ih59 v1_95 v2_95 v3_95 v4_95 (v5_95 + 1) σ_100 _ _ _ M (lv_sub hl [1, 2, 3, 4, 5, 0] rfl) hf
        · have hf := hff c1
          refine lv_iload hx hb dX5_clear_106 (lv_at hl 5 rfl) ?_
          refine lv_istore (lv' := [(4, .int v5_95), (0, .ref o), (1, .int v1_95), (2, .int v2_95), (3, .int v3_95), (5, .int v5_95)]) hx hb dX5_clear_108 hl (by decide) rfl (fun ls hl => ?_)
          refine lv_iinc (v := v5_95 + 1) (lv' := [(5, .int (v5_95 + 1)), (4, .int v5_95), (0, .ref o), (1, .int v1_95), (2, .int v2_95), (3, .int v3_95)]) hx hb dX5_clear_110 hl (k := 5) rfl rfl (by decide) rfl (fun ls hl => ?_)
          refine lv_goto (tgt := 59) hx hb dX5_clear_113 (by decide) ?_
          exact ih59 v1_95 v2_95 v3_95 v5_95 (v5_95 + 1) σ_100 _ _ _ M (lv_sub hl [2, 3, 4, 5, 1, 0] rfl) hf
      intro v1_59 v2_59 v3_59 v4_59 v5_59 σ59 H locs ls M hl hf
      refine lv_iload hx hb dX5_clear_59 (lv_at hl 5 rfl) ?_
      refine lv_iload_n hx hb dX5_clear_61 rfl (lv_at hl 3 rfl) ?_
      obtain ⟨hft, hff⟩ := hf
      refine lv_icmp_gt (tgt := 116) hx hb dX5_clear_62 (by decide) (fun c1 => ?_) (fun c1 => ?_)
      · have hf := hft c1
        refine lv_iload hx hb dX5_clear_116 (lv_at hl 4 rfl) ?_
        obtain ⟨hft, hff⟩ := hf
        refine lv_if_ge (tgt := 123) hx hb dX5_clear_118 (by decide) (fun c1 => ?_) (fun c1 => ?_)
        · have hf := hft c1
          refine lv_aload_n hx hb dX5_clear_123 rfl (lv_at hl 0 rfl) ?_
          refine lv_iconst (v := 1) hx hb dX5_clear_124 rfl ?_
          refine hm_put33 C M hb_B1 q2100 dX5_clear_125 (fun H locs M => ?_)
          refine lv_aload_n hx hb dX5_clear_128 rfl (lv_at hl 0 rfl) ?_
          refine lv_iload hx hb dX5_clear_129 (lv_at hl 4 rfl) ?_
          refine hm_put32 C M q2099 dX5_clear_131 (fun H locs M => ?_)
          refine lv_iload hx hb dX5_clear_134 (lv_at hl 4 rfl) ?_
          refine hm_csi C M hl.1 (As := [.int v4_59]) (rest := []) (hk_bits l D dA o b hB v4_59 (hm_sI (hm_sI σ59 33 1) 32 v4_59) hf) (n := 1) q2291 q2292 q140 q2293 (by decide +kernel) rfl ⟨Nat.le_of_ble_eq_true rfl, Nat.le_of_ble_eq_true rfl⟩ rfl (Nat.le_of_ble_eq_true rfl) dX5_clear_136 (fun r_136 σ_136 H locs hf M => ?_)
          exact hret _ _ _ _ _ _ dX5_clear_139 M hf
        · have hf := hff c1
          refine lv_iconst (v := (-1)) hx hb dX5_clear_121 rfl ?_
          exact hret _ _ _ _ _ _ dX5_clear_122 M hf
      · have hf := hff c1
        refine lv_iload hx hb dX5_clear_65 (lv_at hl 5 rfl) ?_
        refine lv_iload_n hx hb dX5_clear_67 rfl (lv_at hl 3 rfl) ?_
        refine lv_iconst (v := (-1)) hx hb dX5_clear_68 rfl ?_
        refine lv_ixor hx hb dX5_clear_69 ?_
        refine lv_iand hx hb dX5_clear_70 ?_
        obtain ⟨hft, hff⟩ := hf
        refine lv_if_ne (tgt := 110) hx hb dX5_clear_71 (by decide) (fun c1 => ?_) (fun c1 => ?_)
        · have hf := hft c1
          refine lv_iinc (v := v5_59 + 1) (lv' := [(5, .int (v5_59 + 1)), (0, .ref o), (1, .int v1_59), (2, .int v2_59), (3, .int v3_59), (4, .int v4_59)]) hx hb dX5_clear_110 hl (k := 5) rfl rfl (by decide) rfl (fun ls hl => ?_)
          refine lv_goto (tgt := 59) hx hb dX5_clear_113 (by decide) ?_
          exact ih59 v1_59 v2_59 v3_59 v4_59 (v5_59 + 1) σ59 _ _ _ M (lv_sub hl [1, 2, 3, 4, 5, 0] rfl) hf
        · have hf := hff c1
          refine lv_iload hx hb dX5_clear_74 (lv_at hl 4 rfl) ?_
          obtain ⟨hft, hff⟩ := hf
          refine lv_if_lt (tgt := 95) hx hb dX5_clear_76 (by decide) (fun c1 => ?_) (fun c1 => ?_)
          · have hf := hft c1
            exact B95 v1_59 v2_59 v3_59 v4_59 v5_59 σ59 _ _ _ M (lv_sub hl [0, 1, 2, 3, 4, 5] rfl) hf
          · have hf := hff c1
            refine lv_iload hx hb dX5_clear_79 (lv_at hl 5 rfl) ?_
            refine hm_csi C M hl.1 (As := [.int v5_59]) (rest := []) (hk_bits l D dA o b hB v5_59 σ59 hf) (n := 1) q2291 q2292 q140 q2293 (by decide +kernel) rfl ⟨Nat.le_of_ble_eq_true rfl, Nat.le_of_ble_eq_true rfl⟩ rfl (Nat.le_of_ble_eq_true rfl) dX5_clear_81 (fun r_81 σ_81 H locs hf M => ?_)
            refine lv_iload hx hb dX5_clear_84 (lv_at hl 4 rfl) ?_
            refine hm_csi C M hl.1 (As := [.int v4_59]) (rest := [.int r_81]) (hk_bits l D dA o b hB v4_59 σ_81 hf) (n := 1) q2291 q2292 q140 q2293 (by decide +kernel) rfl ⟨Nat.le_of_ble_eq_true rfl, Nat.le_of_ble_eq_true rfl⟩ rfl (Nat.le_of_ble_eq_true rfl) dX5_clear_86 (fun r_86 σ_86 H locs hf M => ?_)
            obtain ⟨hft, hff⟩ := hf
            refine lv_icmp_lt (tgt := 95) hx hb dX5_clear_89 (by decide) (fun c1 => ?_) (fun c1 => ?_)
            · have hf := hft c1
              exact B95 v1_59 v2_59 v3_59 v4_59 v5_59 σ_86 _ _ _ M (lv_sub hl [0, 1, 2, 3, 4, 5] rfl) hf
            · have hf := hff c1
              refine lv_goto (tgt := 110) hx hb dX5_clear_92 (by decide) ?_
              refine lv_iinc (v := v5_59 + 1) (lv' := [(5, .int (v5_59 + 1)), (0, .ref o), (1, .int v1_59), (2, .int v2_59), (3, .int v3_59), (4, .int v4_59)]) hx hb dX5_clear_110 hl (k := 5) rfl rfl (by decide) rfl (fun ls hl => ?_)
              refine lv_goto (tgt := 59) hx hb dX5_clear_113 (by decide) ?_
              exact ih59 v1_59 v2_59 v3_59 v4_59 (v5_59 + 1) σ_86 _ _ _ M (lv_sub hl [1, 2, 3, 4, 5, 0] rfl) hf
  refine lv_aload_n hx hb dX5_clear_0 rfl (lv_at hl 0 rfl) ?_
  refine lv_iconst (v := 0) hx hb dX5_clear_1 rfl ?_
  refine hm_put0 C M q2067 dX5_clear_2 (fun H locs M => ?_)
  refine lv_aload_n hx hb dX5_clear_5 rfl (lv_at hl 0 rfl) ?_
  refine lv_iload_n hx hb dX5_clear_6 rfl (lv_at hl 1 rfl) ?_
  refine lv_iload_n hx hb dX5_clear_7 rfl (lv_at hl 2 rfl) ?_
  refine hm_ci C M hl.1 (As := [.int a1, .int a2]) (rest := []) (hk_areTwo l D dA o b hB a1 a2 (hm_sI σ 0 0) hf) (n := 2) q2436 q2438 qs89 q140 q2439 (by decide +kernel) rfl ⟨Nat.le_of_ble_eq_true rfl, Nat.le_of_ble_eq_true rfl⟩ rfl (Nat.le_of_ble_eq_true rfl) dX5_clear_8 (fun r_8 σ_8 H locs hf M => ?_)
  obtain ⟨hft, hff⟩ := hf
  refine lv_if_eq (tgt := 30) hx hb dX5_clear_11 (by decide) (fun c1 => ?_) (fun c1 => ?_)
  · have hf := hft c1
    refine lv_iconst (v := (-1)) hx hb dX5_clear_30 rfl ?_
    exact hret _ _ _ _ _ _ dX5_clear_31 M hf
  · have hf := hff c1
    refine lv_aload_n hx hb dX5_clear_14 rfl (lv_at hl 0 rfl) ?_
    refine lv_iload_n hx hb dX5_clear_15 rfl (lv_at hl 1 rfl) ?_
    refine hm_ci C M hl.1 (As := [.int a1]) (rest := []) (hk_isLiving l D dA o b hB a1 σ_8 hf) (n := 1) q2341 q2343 qs71 q140 q2344 (by decide +kernel) rfl ⟨Nat.le_of_ble_eq_true rfl, Nat.le_of_ble_eq_true rfl⟩ rfl (Nat.le_of_ble_eq_true rfl) dX5_clear_16 (fun r_16 σ_16 H locs hf M => ?_)
    obtain ⟨hft, hff⟩ := hf
    refine lv_if_eq (tgt := 30) hx hb dX5_clear_19 (by decide) (fun c1 => ?_) (fun c1 => ?_)
    · have hf := hft c1
      refine lv_iconst (v := (-1)) hx hb dX5_clear_30 rfl ?_
      exact hret _ _ _ _ _ _ dX5_clear_31 M hf
    · have hf := hff c1
      refine lv_aload_n hx hb dX5_clear_22 rfl (lv_at hl 0 rfl) ?_
      refine lv_iload_n hx hb dX5_clear_23 rfl (lv_at hl 2 rfl) ?_
      refine hm_ci C M hl.1 (As := [.int a2]) (rest := []) (hk_isLiving l D dA o b hB a2 σ_16 hf) (n := 1) q2341 q2343 qs71 q140 q2344 (by decide +kernel) rfl ⟨Nat.le_of_ble_eq_true rfl, Nat.le_of_ble_eq_true rfl⟩ rfl (Nat.le_of_ble_eq_true rfl) dX5_clear_24 (fun r_24 σ_24 H locs hf M => ?_)
      obtain ⟨hft, hff⟩ := hf
      refine lv_if_ne (tgt := 32) hx hb dX5_clear_27 (by decide) (fun c1 => ?_) (fun c1 => ?_)
      · have hf := hft c1
        refine lv_aload_n hx hb dX5_clear_32 rfl (lv_at hl 0 rfl) ?_
        refine hm_ci C M hl.1 (As := []) (rest := []) (hk_living l D dA o b hB  σ_24 hf) (n := 0) q2357 q2359 qs75 q140 q2360 (by decide +kernel) rfl ⟨Nat.le_of_ble_eq_true rfl, Nat.le_of_ble_eq_true rfl⟩ rfl (Nat.le_of_ble_eq_true rfl) dX5_clear_33 (fun r_33 σ_33 H locs hf M => ?_)
        refine lv_iconst (v := 1) hx hb dX5_clear_36 rfl ?_
        refine lv_iload_n hx hb dX5_clear_37 rfl (lv_at hl 1 rfl) ?_
        refine lv_ishl hx hb dX5_clear_38 ?_
        refine lv_iconst (v := (-1)) hx hb dX5_clear_39 rfl ?_
        refine lv_ixor hx hb dX5_clear_40 ?_
        refine lv_iand hx hb dX5_clear_41 ?_
        refine lv_iconst (v := 1) hx hb dX5_clear_42 rfl ?_
        refine lv_iload_n hx hb dX5_clear_43 rfl (lv_at hl 2 rfl) ?_
        refine lv_ishl hx hb dX5_clear_44 ?_
        refine lv_iconst (v := (-1)) hx hb dX5_clear_45 rfl ?_
        refine lv_ixor hx hb dX5_clear_46 ?_
        refine lv_iand hx hb dX5_clear_47 ?_
        refine lv_istore_n (lv' := [(3, .int ((r_33 &&& (((1 : Int32) <<< (a1 &&& 31)) ^^^ (-1))) &&& (((1 : Int32) <<< (a2 &&& 31)) ^^^ (-1)))), (0, .ref o), (1, .int a1), (2, .int a2)]) hx hb dX5_clear_48 rfl hl (by decide) rfl (fun ls hl => ?_)
        refine lv_iconst (v := (-1)) hx hb dX5_clear_49 rfl ?_
        refine lv_istore (lv' := [(4, .int (-1)), (3, .int ((r_33 &&& (((1 : Int32) <<< (a1 &&& 31)) ^^^ (-1))) &&& (((1 : Int32) <<< (a2 &&& 31)) ^^^ (-1)))), (0, .ref o), (1, .int a1), (2, .int a2)]) hx hb dX5_clear_50 hl (by decide) rfl (fun ls hl => ?_)
        refine lv_aload_n hx hb dX5_clear_52 rfl (lv_at hl 2 rfl) ?_
        refine hm_cv C M hl.1 (As := []) (rest := []) (hk_tries l D dA o b hB  σ_33 hf) (n := 0) q2504 q2506 qs99 q140 q2507 (by decide +kernel) rfl ⟨Nat.le_of_ble_eq_true rfl, Nat.le_of_ble_eq_true rfl⟩ rfl (Nat.le_of_ble_eq_true rfl) dX5_clear_53 (fun σ_53 H locs hf M => ?_)
        refine lv_iconst (v := 0) hx hb dX5_clear_56 rfl ?_
        refine lv_istore (lv' := [(5, .int 0), (4, .int (-1)), (3, .int ((r_33 &&& (((1 : Int32) <<< (a1 &&& 31)) ^^^ (-1))) &&& (((1 : Int32) <<< (a2 &&& 31)) ^^^ (-1)))), (0, .ref o), (1, .int a1), (2, .int a2)]) hx hb dX5_clear_57 hl (by decide) rfl (fun ls hl => ?_)
        obtain ⟨nn, hf⟩ := hf
        exact B59 nn a1 a2 ((r_33 &&& (((1 : Int32) <<< (a1 &&& 31)) ^^^ (-1))) &&& (((1 : Int32) <<< (a2 &&& 31)) ^^^ (-1))) (-1) 0 σ_53 _ _ _ M (lv_sub hl [3, 4, 5, 2, 1, 0] rfl) hf
      · have hf := hff c1
        refine lv_iconst (v := (-1)) hx hb dX5_clear_30 rfl ?_
        exact hret _ _ _ _ _ _ dX5_clear_31 M hf
def hw_cleared  (σ : hm_S) (Q : Int32 → hm_S → Prop) : Prop := ((hm_gI (hm_sI σ 0 0) 33) = 0 → Q (-1) (hm_sI σ 0 0)) ∧ (¬ (hm_gI (hm_sI σ 0 0) 33) = 0 → Q (hm_gI (hm_sI σ 0 0) 32) (hm_sI σ 0 0))
set_option maxHeartbeats 4000000 in
set_option maxRecDepth 100000 in
theorem hk_cleared (l : Launch) (D : va_G) (dA : Nat → ClassId) (o : Nat) (b : Nat → Nat) (hB : hm_D dA o b)  (σ : hm_S) {Q : Int32 → hm_S → Prop} (hf : hw_cleared  σ Q) : Met l yX5_cleared (ws_ yX5_cleared cX5_cleared 1 (some .int)) (hb_R 0 0) (va_Pc [.ref o] (hm_U D dA o b σ)) (va_Qi Q (hm_U D dA o b) (hm_A o b)) 0 0 (hm_A o b) := by
  refine hm_Mi hB (LV := [(0, .ref o)]) (by decide) rfl (Nat.le_of_ble_eq_true rfl) (fun p e s m args below meth c ls QQ C M hl hret => ?_)
  have hx := C.1.1
  have hb := C.1.2.1
  refine lv_aload_n hx hb dX5_cleared_0 rfl (lv_at hl 0 rfl) ?_
  refine lv_iconst (v := 0) hx hb dX5_cleared_1 rfl ?_
  refine hm_put0 C M q2067 dX5_cleared_2 (fun H locs M => ?_)
  refine lv_aload_n hx hb dX5_cleared_5 rfl (lv_at hl 0 rfl) ?_
  refine hm_get C M 33 (by decide) q2100 (v := .int (hm_gI (hm_sI σ 0 0) 33)) rfl dX5_cleared_6 ?_
  obtain ⟨hft, hff⟩ := hf
  refine lv_if_eq (tgt := 19) hx hb dX5_cleared_9 (by decide) (fun c1 => ?_) (fun c1 => ?_)
  · have hf := hft c1
    refine lv_iconst (v := (-1)) hx hb dX5_cleared_19 rfl ?_
    exact hret _ _ _ _ _ _ dX5_cleared_20 M hf
  · have hf := hff c1
    refine lv_aload_n hx hb dX5_cleared_12 rfl (lv_at hl 0 rfl) ?_
    refine hm_get C M 32 (by decide) q2099 (v := .int (hm_gI (hm_sI σ 0 0) 32)) rfl dX5_cleared_13 ?_
    refine lv_goto (tgt := 20) hx hb dX5_cleared_16 (by decide) ?_
    exact hret _ _ _ _ _ _ dX5_cleared_20 M hf
def hw_isFit_b8 : Nat → Int32 → Int32 → Int32 → hm_S → (Int32 → hm_S → Prop) → Prop
  | 0, _, _, _, _, _ => False
  | n8 + 1, v1_8, v2_8, v3_8, σ8, Q => ((hm_gI σ8 3) ≤ v3_8 → hb_B v2_8 ∧ Q v2_8 σ8) ∧ (¬ (hm_gI σ8 3) ≤ v3_8 → (v2_8 = 0 → hw_isFit_b8  n8 v1_8 0 (v3_8 + 2) σ8 Q) ∧ (¬ v2_8 = 0 → hw_octet v3_8 σ8 (fun r_30 σ_30 => (vp_in ((13 * v1_8) + r_30) 156 ∧ (hw_octet (v3_8 + 1) σ_30 (fun r_39 σ_39 => ((¬ (hm_gA σ_30 27 ((13 * v1_8) + r_30)) = r_39 → hw_isFit_b8  n8 v1_8 0 (v3_8 + 2) σ_39 Q) ∧ ((hm_gA σ_30 27 ((13 * v1_8) + r_30)) = r_39 → hw_isFit_b8  n8 v1_8 1 (v3_8 + 2) σ_39 Q))))))))
def hw_isFit (a1 : Int32) (σ : hm_S) (Q : Int32 → hm_S → Prop) : Prop := hw_isLiving a1 σ (fun r_2 σ_2 => (∃ n, hw_isFit_b8  n a1 r_2 0 σ_2 Q))
set_option maxHeartbeats 4000000 in
set_option maxRecDepth 100000 in
theorem hk_isFit (l : Launch) (D : va_G) (dA : Nat → ClassId) (o : Nat) (b : Nat → Nat) (hB : hm_D dA o b) (a1 : Int32) (σ : hm_S) {Q : Int32 → hm_S → Prop} (hf : hw_isFit a1 σ Q) : Met l yX5_isFit (ws_ yX5_isFit cX5_isFit 4 (some .boolean)) (hb_R 2 42) (va_Pc [.ref o, .int a1] (hm_U D dA o b σ)) (va_Qi Q (hm_U D dA o b) (hm_A o b)) 0 0 (hm_A o b) := by
  refine hm_Mz hB (LV := [(0, .ref o), (1, .int a1)]) (by decide) rfl (Nat.le_of_ble_eq_true rfl) (fun p e s m args below meth c ls QQ C M hl hret => ?_)
  have hx := C.1.1
  have hb := C.1.2.1
  have B8 : ∀ (n8 : Nat) (v1_8 : Int32) (v2_8 : Int32) (v3_8 : Int32) (σ8 : hm_S) (H : Heap) (locs : List Loc) (ls : Array Slot), hm_M D dA o b s.heap σ8 H locs → lv_has ls 4 [(0, .ref o), (1, .int v1_8), (2, .int v2_8), (3, .int v3_8)] → hw_isFit_b8  n8 v1_8 v2_8 v3_8 σ8 Q → W p l e (hb_R 2 42) s m args below meth c H locs 0 0 QQ (F0 m 8 ls []) := by
    intro n8
    induction n8 with
    | zero => intro v1_8 v2_8 v3_8 σ8 H locs ls M hl hf; exact hf.elim
    | succ n8 ih8 =>
      intro v1_8 v2_8 v3_8 σ8 H locs ls M hl hf
      refine lv_iload_n hx hb dX5_isFit_8 rfl (lv_at hl 3 rfl) ?_
      refine lv_aload_n hx hb dX5_isFit_9 rfl (lv_at hl 0 rfl) ?_
      refine hm_get C M 3 (by decide) q2070 (v := .int (hm_gI σ8 3)) rfl dX5_isFit_10 ?_
      obtain ⟨hft, hff⟩ := hf
      refine lv_icmp_ge (tgt := 57) hx hb dX5_isFit_13 (by decide) (fun c1 => ?_) (fun c1 => ?_)
      · have hf := hft c1
        refine lv_iload_n hx hb dX5_isFit_57 rfl (lv_at hl 2 rfl) ?_
        exact hret _ _ _ _ _ _ dX5_isFit_58 M hf.1 hf.2
      · have hf := hff c1
        refine lv_iload_n hx hb dX5_isFit_16 rfl (lv_at hl 2 rfl) ?_
        obtain ⟨hft, hff⟩ := hf
        refine lv_if_eq (tgt := 49) hx hb dX5_isFit_17 (by decide) (fun c1 => ?_) (fun c1 => ?_)
        · have hf := hft c1
          refine lv_iconst (v := 0) hx hb dX5_isFit_49 rfl ?_
          refine lv_istore_n (lv' := [(2, .int 0), (0, .ref o), (1, .int v1_8), (3, .int v3_8)]) hx hb dX5_isFit_50 rfl hl (by decide) rfl (fun ls hl => ?_)
          refine lv_iinc (v := v3_8 + 2) (lv' := [(3, .int (v3_8 + 2)), (2, .int 0), (0, .ref o), (1, .int v1_8)]) hx hb dX5_isFit_51 hl (k := 3) rfl rfl (by decide) rfl (fun ls hl => ?_)
          refine lv_goto (tgt := 8) hx hb dX5_isFit_54 (by decide) ?_
          exact ih8 v1_8 0 (v3_8 + 2) σ8 _ _ _ M (lv_sub hl [2, 3, 1, 0] rfl) hf
        · have hf := hff c1
          refine lv_aload_n hx hb dX5_isFit_20 rfl (lv_at hl 0 rfl) ?_
          refine hm_get C M 27 (by decide) q2094 (v := .ref (b 27)) rfl dX5_isFit_21 ?_
          refine lv_bipush (v := 13) hx hb dX5_isFit_24 rfl ?_
          refine lv_iload_n hx hb dX5_isFit_26 rfl (lv_at hl 1 rfl) ?_
          refine lv_imul hx hb dX5_isFit_27 ?_
          refine lv_aload_n hx hb dX5_isFit_28 rfl (lv_at hl 0 rfl) ?_
          refine lv_iload_n hx hb dX5_isFit_29 rfl (lv_at hl 3 rfl) ?_
          refine hm_ci C M hl.1 (As := [.int v3_8]) (rest := [.int (13 * v1_8), .ref (b 27)]) (hk_octet l D dA o b hB v3_8 σ8 hf) (n := 1) q2520 q2522 qs102 q140 q2523 (by decide +kernel) rfl ⟨Nat.le_of_ble_eq_true rfl, Nat.le_of_ble_eq_true rfl⟩ rfl (Nat.le_of_ble_eq_true rfl) dX5_isFit_30 (fun r_30 σ_30 H locs hf M => ?_)
          refine lv_iadd hx hb dX5_isFit_33 ?_
          obtain ⟨g1, hf⟩ := hf
          refine hm_ald27 C M g1 dX5_isFit_34 ?_
          refine lv_aload_n hx hb dX5_isFit_35 rfl (lv_at hl 0 rfl) ?_
          refine lv_iload_n hx hb dX5_isFit_36 rfl (lv_at hl 3 rfl) ?_
          refine lv_iconst (v := 1) hx hb dX5_isFit_37 rfl ?_
          refine lv_iadd hx hb dX5_isFit_38 ?_
          refine hm_ci C M hl.1 (As := [.int (v3_8 + 1)]) (rest := [.int (hm_gA σ_30 27 ((13 * v1_8) + r_30))]) (hk_octet l D dA o b hB (v3_8 + 1) σ_30 hf) (n := 1) q2520 q2522 qs102 q140 q2523 (by decide +kernel) rfl ⟨Nat.le_of_ble_eq_true rfl, Nat.le_of_ble_eq_true rfl⟩ rfl (Nat.le_of_ble_eq_true rfl) dX5_isFit_39 (fun r_39 σ_39 H locs hf M => ?_)
          obtain ⟨hft, hff⟩ := hf
          refine lv_icmp_ne (tgt := 49) hx hb dX5_isFit_42 (by decide) (fun c1 => ?_) (fun c1 => ?_)
          · have hf := hft c1
            refine lv_iconst (v := 0) hx hb dX5_isFit_49 rfl ?_
            refine lv_istore_n (lv' := [(2, .int 0), (0, .ref o), (1, .int v1_8), (3, .int v3_8)]) hx hb dX5_isFit_50 rfl hl (by decide) rfl (fun ls hl => ?_)
            refine lv_iinc (v := v3_8 + 2) (lv' := [(3, .int (v3_8 + 2)), (2, .int 0), (0, .ref o), (1, .int v1_8)]) hx hb dX5_isFit_51 hl (k := 3) rfl rfl (by decide) rfl (fun ls hl => ?_)
            refine lv_goto (tgt := 8) hx hb dX5_isFit_54 (by decide) ?_
            exact ih8 v1_8 0 (v3_8 + 2) σ_39 _ _ _ M (lv_sub hl [2, 3, 1, 0] rfl) hf
          · have hf := hff c1
            refine lv_iconst (v := 1) hx hb dX5_isFit_45 rfl ?_
            refine lv_goto (tgt := 50) hx hb dX5_isFit_46 (by decide) ?_
            refine lv_istore_n (lv' := [(2, .int 1), (0, .ref o), (1, .int v1_8), (3, .int v3_8)]) hx hb dX5_isFit_50 rfl hl (by decide) rfl (fun ls hl => ?_)
            refine lv_iinc (v := v3_8 + 2) (lv' := [(3, .int (v3_8 + 2)), (2, .int 1), (0, .ref o), (1, .int v1_8)]) hx hb dX5_isFit_51 hl (k := 3) rfl rfl (by decide) rfl (fun ls hl => ?_)
            refine lv_goto (tgt := 8) hx hb dX5_isFit_54 (by decide) ?_
            exact ih8 v1_8 1 (v3_8 + 2) σ_39 _ _ _ M (lv_sub hl [2, 3, 1, 0] rfl) hf
  refine lv_aload_n hx hb dX5_isFit_0 rfl (lv_at hl 0 rfl) ?_
  refine lv_iload_n hx hb dX5_isFit_1 rfl (lv_at hl 1 rfl) ?_
  refine hm_ci C M hl.1 (As := [.int a1]) (rest := []) (hk_isLiving l D dA o b hB a1 σ hf) (n := 1) q2341 q2343 qs71 q140 q2344 (by decide +kernel) rfl ⟨Nat.le_of_ble_eq_true rfl, Nat.le_of_ble_eq_true rfl⟩ rfl (Nat.le_of_ble_eq_true rfl) dX5_isFit_2 (fun r_2 σ_2 H locs hf M => ?_)
  refine lv_istore_n (lv' := [(2, .int r_2), (0, .ref o), (1, .int a1)]) hx hb dX5_isFit_5 rfl hl (by decide) rfl (fun ls hl => ?_)
  refine lv_iconst (v := 0) hx hb dX5_isFit_6 rfl ?_
  refine lv_istore_n (lv' := [(3, .int 0), (2, .int r_2), (0, .ref o), (1, .int a1)]) hx hb dX5_isFit_7 rfl hl (by decide) rfl (fun ls hl => ?_)
  obtain ⟨nn, hf⟩ := hf
  exact B8 nn a1 r_2 0 σ_2 _ _ _ M (lv_sub hl [2, 3, 1, 0] rfl) hf
def hw_greater (a0 : Int32) (a1 : Int32) (σ : hm_S) (Q : Int32 → hm_S → Prop) : Prop := (a0 ≤ a1 → Q a1 σ) ∧ (¬ a0 ≤ a1 → Q a0 σ)
set_option maxHeartbeats 4000000 in
set_option maxRecDepth 100000 in
theorem hk_greater (l : Launch) (D : va_G) (dA : Nat → ClassId) (o : Nat) (b : Nat → Nat) (hB : hm_D dA o b) (a0 : Int32) (a1 : Int32) (σ : hm_S) {Q : Int32 → hm_S → Prop} (hf : hw_greater a0 a1 σ Q) : Met l yX5_greater (ws_ yX5_greater cX5_greater 2 (some .int)) (hb_R 0 0) (va_Pc [.int a0, .int a1] (hm_U D dA o b σ)) (va_Qi Q (hm_U D dA o b) (hm_A o b)) 0 0 (hm_A o b) := by
  refine hm_Mi hB (LV := [(0, .int a0), (1, .int a1)]) (by decide) rfl (Nat.le_of_ble_eq_true rfl) (fun p e s m args below meth c ls QQ C M hl hret => ?_)
  have hx := C.1.1
  have hb := C.1.2.1
  refine lv_iload_n hx hb dX5_greater_0 rfl (lv_at hl 0 rfl) ?_
  refine lv_iload_n hx hb dX5_greater_1 rfl (lv_at hl 1 rfl) ?_
  obtain ⟨hft, hff⟩ := hf
  refine lv_icmp_le (tgt := 9) hx hb dX5_greater_2 (by decide) (fun c1 => ?_) (fun c1 => ?_)
  · have hf := hft c1
    refine lv_iload_n hx hb dX5_greater_9 rfl (lv_at hl 1 rfl) ?_
    exact hret _ _ _ _ _ _ dX5_greater_10 M hf
  · have hf := hff c1
    refine lv_iload_n hx hb dX5_greater_5 rfl (lv_at hl 0 rfl) ?_
    refine lv_goto (tgt := 10) hx hb dX5_greater_6 (by decide) ?_
    exact hret _ _ _ _ _ _ dX5_greater_10 M hf
def hw_leftBy_b22 (k5 : Int32 → Int32 → Int32 → Int32 → hm_S → Prop) : Nat → Int32 → Int32 → Int32 → Int32 → Int32 → Int32 → hm_S → (Int32 → hm_S → Prop) → Prop
  | 0, _, _, _, _, _, _, _, _ => False
  | n22 + 1, v1_22, v2_22, v3_22, v4_22, v5_22, v6_22, σ22, Q => vp_in 0 346 ∧ (((hm_gA σ22 6 0) ≤ v6_22 → hw_greater v3_22 v5_22 σ22 (fun r_97 σ_97 => (k5 v1_22 v2_22 r_97 (v4_22 + 1) σ_97))) ∧ (¬ (hm_gA σ22 6 0) ≤ v6_22 → hw_bitOf v1_22 v4_22 σ22 (fun r_38 σ_38 => ((r_38 = 0 → hw_leftBy_b22 k5 n22 v1_22 v2_22 v3_22 v4_22 (v5_22 + 0) (v6_22 + 1) σ_38 Q) ∧ (¬ r_38 = 0 → hw_bitOf v1_22 v6_22 σ_38 (fun r_47 σ_47 => ((r_47 = 0 → hw_leftBy_b22 k5 n22 v1_22 v2_22 v3_22 v4_22 (v5_22 + 0) (v6_22 + 1) σ_47 Q) ∧ (¬ r_47 = 0 → vp_in ((13 * v4_22) + v2_22) 156 ∧ (vp_in ((13 * v6_22) + v2_22) 156 ∧ ((¬ (hm_gA σ_47 27 ((13 * v4_22) + v2_22)) = (hm_gA σ_47 27 ((13 * v6_22) + v2_22)) → hw_leftBy_b22 k5 n22 v1_22 v2_22 v3_22 v4_22 (v5_22 + 0) (v6_22 + 1) σ_47 Q) ∧ ((hm_gA σ_47 27 ((13 * v4_22) + v2_22)) = (hm_gA σ_47 27 ((13 * v6_22) + v2_22)) → hw_leftBy_b22 k5 n22 v1_22 v2_22 v3_22 v4_22 (v5_22 + 1) (v6_22 + 1) σ_47 Q)))))))))))
def hw_leftBy_b5 : Nat → Int32 → Int32 → Int32 → Int32 → hm_S → (Int32 → hm_S → Prop) → Prop
  | 0, _, _, _, _, _, _ => False
  | n5 + 1, v1_5, v2_5, v3_5, v4_5, σ5, Q => vp_in 0 346 ∧ (((hm_gA σ5 6 0) ≤ v4_5 → Q v3_5 σ5) ∧ (¬ (hm_gA σ5 6 0) ≤ v4_5 → ∃ n, hw_leftBy_b22 (fun (u0 : Int32) (u1 : Int32) (u2 : Int32) (u3 : Int32) (τ : hm_S) => hw_leftBy_b5  n5 u0 u1 u2 u3 τ Q) n v1_5 v2_5 v3_5 v4_5 0 0 σ5 Q))
def hw_leftBy (a1 : Int32) (a2 : Int32) (σ : hm_S) (Q : Int32 → hm_S → Prop) : Prop := ∃ n, hw_leftBy_b5  n a1 a2 0 0 σ Q
set_option maxHeartbeats 4000000 in
set_option maxRecDepth 100000 in
theorem hk_leftBy (l : Launch) (D : va_G) (dA : Nat → ClassId) (o : Nat) (b : Nat → Nat) (hB : hm_D dA o b) (a1 : Int32) (a2 : Int32) (σ : hm_S) {Q : Int32 → hm_S → Prop} (hf : hw_leftBy a1 a2 σ Q) : Met l yX5_leftBy (ws_ yX5_leftBy cX5_leftBy 7 (some .int)) (hb_R 1 21) (va_Pc [.ref o, .int a1, .int a2] (hm_U D dA o b σ)) (va_Qi Q (hm_U D dA o b) (hm_A o b)) 0 0 (hm_A o b) := by
  refine hm_Mi hB (LV := [(0, .ref o), (1, .int a1), (2, .int a2)]) (by decide) rfl (Nat.le_of_ble_eq_true rfl) (fun p e s m args below meth c ls QQ C M hl hret => ?_)
  have hx := C.1.1
  have hb := C.1.2.1
  have B5 : ∀ (n5 : Nat) (v1_5 : Int32) (v2_5 : Int32) (v3_5 : Int32) (v4_5 : Int32) (σ5 : hm_S) (H : Heap) (locs : List Loc) (ls : Array Slot), hm_M D dA o b s.heap σ5 H locs → lv_has ls 7 [(0, .ref o), (1, .int v1_5), (2, .int v2_5), (3, .int v3_5), (4, .int v4_5)] → hw_leftBy_b5  n5 v1_5 v2_5 v3_5 v4_5 σ5 Q → W p l e (hb_R 1 21) s m args below meth c H locs 0 0 QQ (F0 m 5 ls []) := by
    intro n5
    induction n5 with
    | zero => intro v1_5 v2_5 v3_5 v4_5 σ5 H locs ls M hl hf; exact hf.elim
    | succ n5 ih5 =>
      have B22 : ∀ (n22 : Nat) (v1_22 : Int32) (v2_22 : Int32) (v3_22 : Int32) (v4_22 : Int32) (v5_22 : Int32) (v6_22 : Int32) (σ22 : hm_S) (H : Heap) (locs : List Loc) (ls : Array Slot), hm_M D dA o b s.heap σ22 H locs → lv_has ls 7 [(0, .ref o), (1, .int v1_22), (2, .int v2_22), (3, .int v3_22), (4, .int v4_22), (5, .int v5_22), (6, .int v6_22)] → hw_leftBy_b22 (fun (u0 : Int32) (u1 : Int32) (u2 : Int32) (u3 : Int32) (τ : hm_S) => hw_leftBy_b5  n5 u0 u1 u2 u3 τ Q) n22 v1_22 v2_22 v3_22 v4_22 v5_22 v6_22 σ22 Q → W p l e (hb_R 1 21) s m args below meth c H locs 0 0 QQ (F0 m 22 ls []) := by
        intro n22
        induction n22 with
        | zero => intro v1_22 v2_22 v3_22 v4_22 v5_22 v6_22 σ22 H locs ls M hl hf; exact hf.elim
        | succ n22 ih22 =>
          intro v1_22 v2_22 v3_22 v4_22 v5_22 v6_22 σ22 H locs ls M hl hf
          refine lv_iload hx hb dX5_leftBy_22 (lv_at hl 6 rfl) ?_
          refine lv_aload_n hx hb dX5_leftBy_24 rfl (lv_at hl 0 rfl) ?_
          refine hm_get C M 6 (by decide) q2073 (v := .ref (b 6)) rfl dX5_leftBy_25 ?_
          refine lv_iconst (v := 0) hx hb dX5_leftBy_28 rfl ?_
          obtain ⟨g1, hf⟩ := hf
          refine hm_ald6 C M g1 dX5_leftBy_29 ?_
          obtain ⟨hft, hff⟩ := hf
          refine lv_icmp_ge (tgt := 94) hx hb dX5_leftBy_30 (by decide) (fun c1 => ?_) (fun c1 => ?_)
          · have hf := hft c1
            refine lv_iload_n hx hb dX5_leftBy_94 rfl (lv_at hl 3 rfl) ?_
            refine lv_iload hx hb dX5_leftBy_95 (lv_at hl 5 rfl) ?_
            refine hm_csi C M hl.1 (As := [.int v3_22, .int v5_22]) (rest := []) (hk_greater l D dA o b hB v3_22 v5_22 σ22 hf) (n := 2) q2569 q2570 q140 q2571 (by decide +kernel) rfl ⟨Nat.le_of_ble_eq_true rfl, Nat.le_of_ble_eq_true rfl⟩ rfl (Nat.le_of_ble_eq_true rfl) dX5_leftBy_97 (fun r_97 σ_97 H locs hf M => ?_)
            refine lv_istore_n (lv' := [(3, .int r_97), (0, .ref o), (1, .int v1_22), (2, .int v2_22), (4, .int v4_22), (5, .int v5_22), (6, .int v6_22)]) hx hb dX5_leftBy_100 rfl hl (by decide) rfl (fun ls hl => ?_)
            refine lv_iinc (v := v4_22 + 1) (lv' := [(4, .int (v4_22 + 1)), (3, .int r_97), (0, .ref o), (1, .int v1_22), (2, .int v2_22), (5, .int v5_22), (6, .int v6_22)]) hx hb dX5_leftBy_101 hl (k := 4) rfl rfl (by decide) rfl (fun ls hl => ?_)
            refine lv_goto (tgt := 5) hx hb dX5_leftBy_104 (by decide) ?_
            exact ih5 v1_22 v2_22 r_97 (v4_22 + 1) σ_97 _ _ _ M (lv_sub hl [2, 3, 4, 1, 0] rfl) hf
          · have hf := hff c1
            refine lv_iload hx hb dX5_leftBy_33 (lv_at hl 5 rfl) ?_
            refine lv_iload_n hx hb dX5_leftBy_35 rfl (lv_at hl 1 rfl) ?_
            refine lv_iload hx hb dX5_leftBy_36 (lv_at hl 4 rfl) ?_
            refine hm_csi C M hl.1 (As := [.int v1_22, .int v4_22]) (rest := [.int v5_22]) (hk_bitOf l D dA o b hB v1_22 v4_22 σ22 hf) (n := 2) q2294 q2295 q140 q2296 (by decide +kernel) rfl ⟨Nat.le_of_ble_eq_true rfl, Nat.le_of_ble_eq_true rfl⟩ rfl (Nat.le_of_ble_eq_true rfl) dX5_leftBy_38 (fun r_38 σ_38 H locs hf M => ?_)
            obtain ⟨hft, hff⟩ := hf
            refine lv_if_eq (tgt := 84) hx hb dX5_leftBy_41 (by decide) (fun c1 => ?_) (fun c1 => ?_)
            · have hf := hft c1
              refine lv_iconst (v := 0) hx hb dX5_leftBy_84 rfl ?_
              refine lv_iadd hx hb dX5_leftBy_85 ?_
              refine lv_istore (lv' := [(5, .int (v5_22 + 0)), (0, .ref o), (1, .int v1_22), (2, .int v2_22), (3, .int v3_22), (4, .int v4_22), (6, .int v6_22)]) hx hb dX5_leftBy_86 hl (by decide) rfl (fun ls hl => ?_)
              refine lv_iinc (v := v6_22 + 1) (lv' := [(6, .int (v6_22 + 1)), (5, .int (v5_22 + 0)), (0, .ref o), (1, .int v1_22), (2, .int v2_22), (3, .int v3_22), (4, .int v4_22)]) hx hb dX5_leftBy_88 hl (k := 6) rfl rfl (by decide) rfl (fun ls hl => ?_)
              refine lv_goto (tgt := 22) hx hb dX5_leftBy_91 (by decide) ?_
              exact ih22 v1_22 v2_22 v3_22 v4_22 (v5_22 + 0) (v6_22 + 1) σ_38 _ _ _ M (lv_sub hl [2, 3, 4, 5, 6, 1, 0] rfl) hf
            · have hf := hff c1
              refine lv_iload_n hx hb dX5_leftBy_44 rfl (lv_at hl 1 rfl) ?_
              refine lv_iload hx hb dX5_leftBy_45 (lv_at hl 6 rfl) ?_
              refine hm_csi C M hl.1 (As := [.int v1_22, .int v6_22]) (rest := [.int v5_22]) (hk_bitOf l D dA o b hB v1_22 v6_22 σ_38 hf) (n := 2) q2294 q2295 q140 q2296 (by decide +kernel) rfl ⟨Nat.le_of_ble_eq_true rfl, Nat.le_of_ble_eq_true rfl⟩ rfl (Nat.le_of_ble_eq_true rfl) dX5_leftBy_47 (fun r_47 σ_47 H locs hf M => ?_)
              obtain ⟨hft, hff⟩ := hf
              refine lv_if_eq (tgt := 84) hx hb dX5_leftBy_50 (by decide) (fun c1 => ?_) (fun c1 => ?_)
              · have hf := hft c1
                refine lv_iconst (v := 0) hx hb dX5_leftBy_84 rfl ?_
                refine lv_iadd hx hb dX5_leftBy_85 ?_
                refine lv_istore (lv' := [(5, .int (v5_22 + 0)), (0, .ref o), (1, .int v1_22), (2, .int v2_22), (3, .int v3_22), (4, .int v4_22), (6, .int v6_22)]) hx hb dX5_leftBy_86 hl (by decide) rfl (fun ls hl => ?_)
                refine lv_iinc (v := v6_22 + 1) (lv' := [(6, .int (v6_22 + 1)), (5, .int (v5_22 + 0)), (0, .ref o), (1, .int v1_22), (2, .int v2_22), (3, .int v3_22), (4, .int v4_22)]) hx hb dX5_leftBy_88 hl (k := 6) rfl rfl (by decide) rfl (fun ls hl => ?_)
                refine lv_goto (tgt := 22) hx hb dX5_leftBy_91 (by decide) ?_
                exact ih22 v1_22 v2_22 v3_22 v4_22 (v5_22 + 0) (v6_22 + 1) σ_47 _ _ _ M (lv_sub hl [2, 3, 4, 5, 6, 1, 0] rfl) hf
              · have hf := hff c1
                refine lv_aload_n hx hb dX5_leftBy_53 rfl (lv_at hl 0 rfl) ?_
                refine hm_get C M 27 (by decide) q2094 (v := .ref (b 27)) rfl dX5_leftBy_54 ?_
                refine lv_bipush (v := 13) hx hb dX5_leftBy_57 rfl ?_
                refine lv_iload hx hb dX5_leftBy_59 (lv_at hl 4 rfl) ?_
                refine lv_imul hx hb dX5_leftBy_61 ?_
                refine lv_iload_n hx hb dX5_leftBy_62 rfl (lv_at hl 2 rfl) ?_
                refine lv_iadd hx hb dX5_leftBy_63 ?_
                obtain ⟨g1, hf⟩ := hf
                refine hm_ald27 C M g1 dX5_leftBy_64 ?_
                refine lv_aload_n hx hb dX5_leftBy_65 rfl (lv_at hl 0 rfl) ?_
                refine hm_get C M 27 (by decide) q2094 (v := .ref (b 27)) rfl dX5_leftBy_66 ?_
                refine lv_bipush (v := 13) hx hb dX5_leftBy_69 rfl ?_
                refine lv_iload hx hb dX5_leftBy_71 (lv_at hl 6 rfl) ?_
                refine lv_imul hx hb dX5_leftBy_73 ?_
                refine lv_iload_n hx hb dX5_leftBy_74 rfl (lv_at hl 2 rfl) ?_
                refine lv_iadd hx hb dX5_leftBy_75 ?_
                obtain ⟨g1, hf⟩ := hf
                refine hm_ald27 C M g1 dX5_leftBy_76 ?_
                obtain ⟨hft, hff⟩ := hf
                refine lv_icmp_ne (tgt := 84) hx hb dX5_leftBy_77 (by decide) (fun c1 => ?_) (fun c1 => ?_)
                · have hf := hft c1
                  refine lv_iconst (v := 0) hx hb dX5_leftBy_84 rfl ?_
                  refine lv_iadd hx hb dX5_leftBy_85 ?_
                  refine lv_istore (lv' := [(5, .int (v5_22 + 0)), (0, .ref o), (1, .int v1_22), (2, .int v2_22), (3, .int v3_22), (4, .int v4_22), (6, .int v6_22)]) hx hb dX5_leftBy_86 hl (by decide) rfl (fun ls hl => ?_)
                  refine lv_iinc (v := v6_22 + 1) (lv' := [(6, .int (v6_22 + 1)), (5, .int (v5_22 + 0)), (0, .ref o), (1, .int v1_22), (2, .int v2_22), (3, .int v3_22), (4, .int v4_22)]) hx hb dX5_leftBy_88 hl (k := 6) rfl rfl (by decide) rfl (fun ls hl => ?_)
                  refine lv_goto (tgt := 22) hx hb dX5_leftBy_91 (by decide) ?_
                  exact ih22 v1_22 v2_22 v3_22 v4_22 (v5_22 + 0) (v6_22 + 1) σ_47 _ _ _ M (lv_sub hl [2, 3, 4, 5, 6, 1, 0] rfl) hf
                · have hf := hff c1
                  refine lv_iconst (v := 1) hx hb dX5_leftBy_80 rfl ?_
                  refine lv_goto (tgt := 85) hx hb dX5_leftBy_81 (by decide) ?_
                  refine lv_iadd hx hb dX5_leftBy_85 ?_
                  refine lv_istore (lv' := [(5, .int (v5_22 + 1)), (0, .ref o), (1, .int v1_22), (2, .int v2_22), (3, .int v3_22), (4, .int v4_22), (6, .int v6_22)]) hx hb dX5_leftBy_86 hl (by decide) rfl (fun ls hl => ?_)
                  refine lv_iinc (v := v6_22 + 1) (lv' := [(6, .int (v6_22 + 1)), (5, .int (v5_22 + 1)), (0, .ref o), (1, .int v1_22), (2, .int v2_22), (3, .int v3_22), (4, .int v4_22)]) hx hb dX5_leftBy_88 hl (k := 6) rfl rfl (by decide) rfl (fun ls hl => ?_)
                  refine lv_goto (tgt := 22) hx hb dX5_leftBy_91 (by decide) ?_
                  exact ih22 v1_22 v2_22 v3_22 v4_22 (v5_22 + 1) (v6_22 + 1) σ_47 _ _ _ M (lv_sub hl [2, 3, 4, 5, 6, 1, 0] rfl) hf
      intro v1_5 v2_5 v3_5 v4_5 σ5 H locs ls M hl hf
      refine lv_iload hx hb dX5_leftBy_5 (lv_at hl 4 rfl) ?_
      refine lv_aload_n hx hb dX5_leftBy_7 rfl (lv_at hl 0 rfl) ?_
      refine hm_get C M 6 (by decide) q2073 (v := .ref (b 6)) rfl dX5_leftBy_8 ?_
      refine lv_iconst (v := 0) hx hb dX5_leftBy_11 rfl ?_
      obtain ⟨g1, hf⟩ := hf
      refine hm_ald6 C M g1 dX5_leftBy_12 ?_
      obtain ⟨hft, hff⟩ := hf
      refine lv_icmp_ge (tgt := 107) hx hb dX5_leftBy_13 (by decide) (fun c1 => ?_) (fun c1 => ?_)
      · have hf := hft c1
        refine lv_iload_n hx hb dX5_leftBy_107 rfl (lv_at hl 3 rfl) ?_
        exact hret _ _ _ _ _ _ dX5_leftBy_108 M hf
      · have hf := hff c1
        refine lv_iconst (v := 0) hx hb dX5_leftBy_16 rfl ?_
        refine lv_istore (lv' := [(5, .int 0), (0, .ref o), (1, .int v1_5), (2, .int v2_5), (3, .int v3_5), (4, .int v4_5)]) hx hb dX5_leftBy_17 hl (by decide) rfl (fun ls hl => ?_)
        refine lv_iconst (v := 0) hx hb dX5_leftBy_19 rfl ?_
        refine lv_istore (lv' := [(6, .int 0), (5, .int 0), (0, .ref o), (1, .int v1_5), (2, .int v2_5), (3, .int v3_5), (4, .int v4_5)]) hx hb dX5_leftBy_20 hl (by decide) rfl (fun ls hl => ?_)
        obtain ⟨nn, hf⟩ := hf
        exact B22 nn v1_5 v2_5 v3_5 v4_5 0 0 σ5 _ _ _ M (lv_sub hl [2, 3, 4, 5, 6, 1, 0] rfl) hf
  refine lv_iconst (v := 0) hx hb dX5_leftBy_0 rfl ?_
  refine lv_istore_n (lv' := [(3, .int 0), (0, .ref o), (1, .int a1), (2, .int a2)]) hx hb dX5_leftBy_1 rfl hl (by decide) rfl (fun ls hl => ?_)
  refine lv_iconst (v := 0) hx hb dX5_leftBy_2 rfl ?_
  refine lv_istore (lv' := [(4, .int 0), (3, .int 0), (0, .ref o), (1, .int a1), (2, .int a2)]) hx hb dX5_leftBy_3 hl (by decide) rfl (fun ls hl => ?_)
  obtain ⟨nn, hf⟩ := hf
  exact B5 nn a1 a2 0 0 σ _ _ _ M (lv_sub hl [2, 3, 4, 1, 0] rfl) hf
