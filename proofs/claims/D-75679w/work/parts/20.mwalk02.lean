set_option maxRecDepth 100000
def hw_stirpes_b4 : Nat → Int32 → Int32 → Int32 → hm_S → (Int32 → hm_S → Prop) → Prop
  | 0, _, _, _, _, _ => False
  | n4 + 1, v1_4, v2_4, v3_4, σ4, Q => vp_in 0 346 ∧ (((hm_gA σ4 6 0) ≤ v3_4 → Q v2_4 σ4) ∧ (¬ (hm_gA σ4 6 0) ≤ v3_4 → hw_bitOf v1_4 v3_4 σ4 (fun r_17 σ_17 => ((r_17 = 0 → hw_stirpes_b4  n4 v1_4 (v2_4 ||| 0) (v3_4 + 1) σ_17 Q) ∧ (¬ r_17 = 0 → hw_isLiving v3_4 σ_17 (fun r_25 σ_25 => ((¬ r_25 = 0 → hw_stirpes_b4  n4 v1_4 (v2_4 ||| ((1 : Int32) <<< (v3_4 &&& 31))) (v3_4 + 1) σ_25 Q) ∧ (r_25 = 0 → hw_livingIssue v3_4 σ_25 (fun r_33 σ_33 => ((r_33 = 0 → hw_stirpes_b4  n4 v1_4 (v2_4 ||| 0) (v3_4 + 1) σ_33 Q) ∧ (¬ r_33 = 0 → hw_stirpes_b4  n4 v1_4 (v2_4 ||| ((1 : Int32) <<< (v3_4 &&& 31))) (v3_4 + 1) σ_33 Q)))))))))))
def hw_stirpes (a1 : Int32) (σ : hm_S) (Q : Int32 → hm_S → Prop) : Prop := ∃ n, hw_stirpes_b4  n a1 0 0 σ Q
set_option maxHeartbeats 4000000 in
set_option maxRecDepth 100000 in
theorem hk_stirpes (l : Launch) (D : va_G) (dA : Nat → ClassId) (o : Nat) (b : Nat → Nat) (hB : hm_D dA o b) (a1 : Int32) (σ : hm_S) {Q : Int32 → hm_S → Prop} (hf : hw_stirpes a1 σ Q) : Met l yX5_stirpes (ws_ yX5_stirpes cX5_stirpes 4 (some .int)) (hb_R 3 67) (va_Pc [.ref o, .int a1] (hm_U D dA o b σ)) (va_Qi Q (hm_U D dA o b) (hm_A o b)) 0 0 (hm_A o b) := by
  refine hm_Mi hB (LV := [(0, .ref o), (1, .int a1)]) (by decide) rfl (Nat.le_of_ble_eq_true rfl) (fun p e s m args below meth c ls QQ C M hl hret => ?_)
  have hx := C.1.1
  have hb := C.1.2.1
  have B4 : ∀ (n4 : Nat) (v1_4 : Int32) (v2_4 : Int32) (v3_4 : Int32) (σ4 : hm_S) (H : Heap) (locs : List Loc) (ls : Array Slot), hm_M D dA o b s.heap σ4 H locs → lv_has ls 4 [(0, .ref o), (1, .int v1_4), (2, .int v2_4), (3, .int v3_4)] → hw_stirpes_b4  n4 v1_4 v2_4 v3_4 σ4 Q → W p l e (hb_R 3 67) s m args below meth c H locs 0 0 QQ (F0 m 4 ls []) := by
    intro n4
    induction n4 with
    | zero => intro v1_4 v2_4 v3_4 σ4 H locs ls M hl hf; exact hf.elim
    | succ n4 ih4 =>
      intro v1_4 v2_4 v3_4 σ4 H locs ls M hl hf
      refine lv_iload_n hx hb dX5_stirpes_4 rfl (lv_at hl 3 rfl) ?_
      refine lv_aload_n hx hb dX5_stirpes_5 rfl (lv_at hl 0 rfl) ?_
      refine hm_get C M 6 (by decide) q2073 (v := .ref (b 6)) rfl dX5_stirpes_6 ?_
      refine lv_iconst (v := 0) hx hb dX5_stirpes_9 rfl ?_
      obtain ⟨g1, hf⟩ := hf
      refine hm_ald6 C M g1 dX5_stirpes_10 ?_
      obtain ⟨hft, hff⟩ := hf
      refine lv_icmp_ge (tgt := 54) hx hb dX5_stirpes_11 (by decide) (fun c1 => ?_) (fun c1 => ?_)
      · have hf := hft c1
        refine lv_iload_n hx hb dX5_stirpes_54 rfl (lv_at hl 2 rfl) ?_
        exact hret _ _ _ _ _ _ dX5_stirpes_55 M hf
      · have hf := hff c1
        refine lv_iload_n hx hb dX5_stirpes_14 rfl (lv_at hl 2 rfl) ?_
        refine lv_iload_n hx hb dX5_stirpes_15 rfl (lv_at hl 1 rfl) ?_
        refine lv_iload_n hx hb dX5_stirpes_16 rfl (lv_at hl 3 rfl) ?_
        refine hm_csi C M hl.1 (As := [.int v1_4, .int v3_4]) (rest := [.int v2_4]) (hk_bitOf l D dA o b hB v1_4 v3_4 σ4 hf) (n := 2) q2294 q2295 q140 q2296 (by decide +kernel) rfl ⟨Nat.le_of_ble_eq_true rfl, Nat.le_of_ble_eq_true rfl⟩ rfl (Nat.le_of_ble_eq_true rfl) dX5_stirpes_17 (fun r_17 σ_17 H locs hf M => ?_)
        obtain ⟨hft, hff⟩ := hf
        refine lv_if_eq (tgt := 45) hx hb dX5_stirpes_20 (by decide) (fun c1 => ?_) (fun c1 => ?_)
        · have hf := hft c1
          refine lv_iconst (v := 0) hx hb dX5_stirpes_45 rfl ?_
          refine lv_ior hx hb dX5_stirpes_46 ?_
          refine lv_istore_n (lv' := [(2, .int (v2_4 ||| 0)), (0, .ref o), (1, .int v1_4), (3, .int v3_4)]) hx hb dX5_stirpes_47 rfl hl (by decide) rfl (fun ls hl => ?_)
          refine lv_iinc (v := v3_4 + 1) (lv' := [(3, .int (v3_4 + 1)), (2, .int (v2_4 ||| 0)), (0, .ref o), (1, .int v1_4)]) hx hb dX5_stirpes_48 hl (k := 3) rfl rfl (by decide) rfl (fun ls hl => ?_)
          refine lv_goto (tgt := 4) hx hb dX5_stirpes_51 (by decide) ?_
          exact ih4 v1_4 (v2_4 ||| 0) (v3_4 + 1) σ_17 _ _ _ M (lv_sub hl [2, 3, 1, 0] rfl) hf
        · have hf := hff c1
          refine lv_aload_n hx hb dX5_stirpes_23 rfl (lv_at hl 0 rfl) ?_
          refine lv_iload_n hx hb dX5_stirpes_24 rfl (lv_at hl 3 rfl) ?_
          refine hm_ci C M hl.1 (As := [.int v3_4]) (rest := [.int v2_4]) (hk_isLiving l D dA o b hB v3_4 σ_17 hf) (n := 1) q2341 q2343 qs71 q140 q2344 (by decide +kernel) rfl ⟨Nat.le_of_ble_eq_true rfl, Nat.le_of_ble_eq_true rfl⟩ rfl (Nat.le_of_ble_eq_true rfl) dX5_stirpes_25 (fun r_25 σ_25 H locs hf M => ?_)
          obtain ⟨hft, hff⟩ := hf
          refine lv_if_ne (tgt := 39) hx hb dX5_stirpes_28 (by decide) (fun c1 => ?_) (fun c1 => ?_)
          · have hf := hft c1
            refine lv_iconst (v := 1) hx hb dX5_stirpes_39 rfl ?_
            refine lv_iload_n hx hb dX5_stirpes_40 rfl (lv_at hl 3 rfl) ?_
            refine lv_ishl hx hb dX5_stirpes_41 ?_
            refine lv_goto (tgt := 46) hx hb dX5_stirpes_42 (by decide) ?_
            refine lv_ior hx hb dX5_stirpes_46 ?_
            refine lv_istore_n (lv' := [(2, .int (v2_4 ||| ((1 : Int32) <<< (v3_4 &&& 31)))), (0, .ref o), (1, .int v1_4), (3, .int v3_4)]) hx hb dX5_stirpes_47 rfl hl (by decide) rfl (fun ls hl => ?_)
            refine lv_iinc (v := v3_4 + 1) (lv' := [(3, .int (v3_4 + 1)), (2, .int (v2_4 ||| ((1 : Int32) <<< (v3_4 &&& 31)))), (0, .ref o), (1, .int v1_4)]) hx hb dX5_stirpes_48 hl (k := 3) rfl rfl (by decide) rfl (fun ls hl => ?_)
            refine lv_goto (tgt := 4) hx hb dX5_stirpes_51 (by decide) ?_
            exact ih4 v1_4 (v2_4 ||| ((1 : Int32) <<< (v3_4 &&& 31))) (v3_4 + 1) σ_25 _ _ _ M (lv_sub hl [2, 3, 1, 0] rfl) hf
          · have hf := hff c1
            refine lv_aload_n hx hb dX5_stirpes_31 rfl (lv_at hl 0 rfl) ?_
            refine lv_iload_n hx hb dX5_stirpes_32 rfl (lv_at hl 3 rfl) ?_
            refine hm_ci C M hl.1 (As := [.int v3_4]) (rest := [.int v2_4]) (hk_livingIssue l D dA o b hB v3_4 σ_25 hf) (n := 1) q2349 q2351 qs73 q140 q2352 (by decide +kernel) rfl ⟨Nat.le_of_ble_eq_true rfl, Nat.le_of_ble_eq_true rfl⟩ rfl (Nat.le_of_ble_eq_true rfl) dX5_stirpes_33 (fun r_33 σ_33 H locs hf M => ?_)
            obtain ⟨hft, hff⟩ := hf
            refine lv_if_eq (tgt := 45) hx hb dX5_stirpes_36 (by decide) (fun c1 => ?_) (fun c1 => ?_)
            · have hf := hft c1
              refine lv_iconst (v := 0) hx hb dX5_stirpes_45 rfl ?_
              refine lv_ior hx hb dX5_stirpes_46 ?_
              refine lv_istore_n (lv' := [(2, .int (v2_4 ||| 0)), (0, .ref o), (1, .int v1_4), (3, .int v3_4)]) hx hb dX5_stirpes_47 rfl hl (by decide) rfl (fun ls hl => ?_)
              refine lv_iinc (v := v3_4 + 1) (lv' := [(3, .int (v3_4 + 1)), (2, .int (v2_4 ||| 0)), (0, .ref o), (1, .int v1_4)]) hx hb dX5_stirpes_48 hl (k := 3) rfl rfl (by decide) rfl (fun ls hl => ?_)
              refine lv_goto (tgt := 4) hx hb dX5_stirpes_51 (by decide) ?_
              exact ih4 v1_4 (v2_4 ||| 0) (v3_4 + 1) σ_33 _ _ _ M (lv_sub hl [2, 3, 1, 0] rfl) hf
            · have hf := hff c1
              refine lv_iconst (v := 1) hx hb dX5_stirpes_39 rfl ?_
              refine lv_iload_n hx hb dX5_stirpes_40 rfl (lv_at hl 3 rfl) ?_
              refine lv_ishl hx hb dX5_stirpes_41 ?_
              refine lv_goto (tgt := 46) hx hb dX5_stirpes_42 (by decide) ?_
              refine lv_ior hx hb dX5_stirpes_46 ?_
              refine lv_istore_n (lv' := [(2, .int (v2_4 ||| ((1 : Int32) <<< (v3_4 &&& 31)))), (0, .ref o), (1, .int v1_4), (3, .int v3_4)]) hx hb dX5_stirpes_47 rfl hl (by decide) rfl (fun ls hl => ?_)
              refine lv_iinc (v := v3_4 + 1) (lv' := [(3, .int (v3_4 + 1)), (2, .int (v2_4 ||| ((1 : Int32) <<< (v3_4 &&& 31)))), (0, .ref o), (1, .int v1_4)]) hx hb dX5_stirpes_48 hl (k := 3) rfl rfl (by decide) rfl (fun ls hl => ?_)
              refine lv_goto (tgt := 4) hx hb dX5_stirpes_51 (by decide) ?_
              exact ih4 v1_4 (v2_4 ||| ((1 : Int32) <<< (v3_4 &&& 31))) (v3_4 + 1) σ_33 _ _ _ M (lv_sub hl [2, 3, 1, 0] rfl) hf
  refine lv_iconst (v := 0) hx hb dX5_stirpes_0 rfl ?_
  refine lv_istore_n (lv' := [(2, .int 0), (0, .ref o), (1, .int a1)]) hx hb dX5_stirpes_1 rfl hl (by decide) rfl (fun ls hl => ?_)
  refine lv_iconst (v := 0) hx hb dX5_stirpes_2 rfl ?_
  refine lv_istore_n (lv' := [(3, .int 0), (2, .int 0), (0, .ref o), (1, .int a1)]) hx hb dX5_stirpes_3 rfl hl (by decide) rfl (fun ls hl => ?_)
  obtain ⟨nn, hf⟩ := hf
  exact B4 nn a1 0 0 σ _ _ _ M (lv_sub hl [2, 3, 1, 0] rfl) hf
def hw_shares_b11 : Nat → hm_S → (hm_S → Prop) → Prop
  | 0, _, _ => False
  | n11 + 1, σ11, Q => ((hm_gI σ11 23) ≤ 0 → Q σ11) ∧ (¬ (hm_gI σ11 23) ≤ 0 → vp_in (hm_gI (hm_sI σ11 23 ((hm_gI σ11 23) - 1)) 23) 512 ∧ (hw_stirpes (hm_gA (hm_sI σ11 23 ((hm_gI σ11 23) - 1)) 21 (hm_gI (hm_sI σ11 23 ((hm_gI σ11 23) - 1)) 23)) (hm_sI σ11 23 ((hm_gI σ11 23) - 1)) (fun r_39 σ_39 => (vp_in (hm_gI σ_39 23) 512 ∧ (hw_parts r_39 (hm_gA σ_39 22 (hm_gI σ_39 23)) σ_39 (fun σ_51 => (hw_shares_b11  n11  σ_51 Q)))))))
def hw_shares (a1 : Int32) (a2 : Int32) (σ : hm_S) (Q : hm_S → Prop) : Prop := hw_heaps a1 a2 (hm_sI σ 23 0) (fun σ_8 => (∃ n, hw_shares_b11  n  σ_8 Q))
set_option maxHeartbeats 4000000 in
set_option maxRecDepth 100000 in
theorem hk_shares (l : Launch) (D : va_G) (dA : Nat → ClassId) (o : Nat) (b : Nat → Nat) (hB : hm_D dA o b) (a1 : Int32) (a2 : Int32) (σ : hm_S) {Q : hm_S → Prop} (hf : hw_shares a1 a2 σ Q) : Met l yX5_shares (ws_ yX5_shares cX5_shares 3 none) (hb_R 4 90) (va_Pc [.ref o, .int a1, .int a2] (hm_U D dA o b σ)) (va_Qv Q (hm_U D dA o b) (hm_A o b)) 0 0 (hm_A o b) := by
  refine hm_Mv hB (LV := [(0, .ref o), (1, .int a1), (2, .int a2)]) (by decide) rfl (Nat.le_of_ble_eq_true rfl) (fun p e s m args below meth c ls QQ C M hl hret => ?_)
  have hx := C.1.1
  have hb := C.1.2.1
  have B11 : ∀ (n11 : Nat)  (σ11 : hm_S) (H : Heap) (locs : List Loc) (ls : Array Slot), hm_M D dA o b s.heap σ11 H locs → lv_has ls 3 [(0, .ref o)] → hw_shares_b11  n11  σ11 Q → W p l e (hb_R 4 90) s m args below meth c H locs 0 0 QQ (F0 m 11 ls []) := by
    intro n11
    induction n11 with
    | zero => intro  σ11 H locs ls M hl hf; exact hf.elim
    | succ n11 ih11 =>
      intro  σ11 H locs ls M hl hf
      refine lv_aload_n hx hb dX5_shares_11 rfl (lv_at hl 0 rfl) ?_
      refine hm_get C M 23 (by decide) q2090 (v := .int (hm_gI σ11 23)) rfl dX5_shares_12 ?_
      obtain ⟨hft, hff⟩ := hf
      refine lv_if_le (tgt := 57) hx hb dX5_shares_15 (by decide) (fun c1 => ?_) (fun c1 => ?_)
      · have hf := hft c1
        exact hret _ _ _ _ _ dX5_shares_57 M hf
      · have hf := hff c1
        refine lv_aload_n hx hb dX5_shares_18 rfl (lv_at hl 0 rfl) ?_
        refine lv_dup hx hb dX5_shares_19 rfl ?_
        refine hm_get C M 23 (by decide) q2090 (v := .int (hm_gI σ11 23)) rfl dX5_shares_20 ?_
        refine lv_iconst (v := 1) hx hb dX5_shares_23 rfl ?_
        refine lv_isub hx hb dX5_shares_24 ?_
        refine hm_put23 C M q2090 dX5_shares_25 (fun H locs M => ?_)
        refine lv_aload_n hx hb dX5_shares_28 rfl (lv_at hl 0 rfl) ?_
        refine lv_aload_n hx hb dX5_shares_29 rfl (lv_at hl 0 rfl) ?_
        refine lv_aload_n hx hb dX5_shares_30 rfl (lv_at hl 0 rfl) ?_
        refine hm_get C M 21 (by decide) q2088 (v := .ref (b 21)) rfl dX5_shares_31 ?_
        refine lv_aload_n hx hb dX5_shares_34 rfl (lv_at hl 0 rfl) ?_
        refine hm_get C M 23 (by decide) q2090 (v := .int (hm_gI (hm_sI σ11 23 ((hm_gI σ11 23) - 1)) 23)) rfl dX5_shares_35 ?_
        obtain ⟨g1, hf⟩ := hf
        refine hm_ald21 C M g1 dX5_shares_38 ?_
        refine hm_ci C M hl.1 (As := [.int (hm_gA (hm_sI σ11 23 ((hm_gI σ11 23) - 1)) 21 (hm_gI (hm_sI σ11 23 ((hm_gI σ11 23) - 1)) 23))]) (rest := [.ref o]) (hk_stirpes l D dA o b hB (hm_gA (hm_sI σ11 23 ((hm_gI σ11 23) - 1)) 21 (hm_gI (hm_sI σ11 23 ((hm_gI σ11 23) - 1)) 23)) (hm_sI σ11 23 ((hm_gI σ11 23) - 1)) hf) (n := 1) q2424 q2426 qs87 q140 q2427 (by decide +kernel) rfl ⟨Nat.le_of_ble_eq_true rfl, Nat.le_of_ble_eq_true rfl⟩ rfl (Nat.le_of_ble_eq_true rfl) dX5_shares_39 (fun r_39 σ_39 H locs hf M => ?_)
        refine lv_aload_n hx hb dX5_shares_42 rfl (lv_at hl 0 rfl) ?_
        refine hm_get C M 22 (by decide) q2089 (v := .ref (b 22)) rfl dX5_shares_43 ?_
        refine lv_aload_n hx hb dX5_shares_46 rfl (lv_at hl 0 rfl) ?_
        refine hm_get C M 23 (by decide) q2090 (v := .int (hm_gI σ_39 23)) rfl dX5_shares_47 ?_
        obtain ⟨g1, hf⟩ := hf
        refine hm_ald22 C M g1 dX5_shares_50 ?_
        refine hm_cv C M hl.1 (As := [.int r_39, .int (hm_gA σ_39 22 (hm_gI σ_39 23))]) (rest := []) (hk_parts l D dA o b hB r_39 (hm_gA σ_39 22 (hm_gI σ_39 23)) σ_39 hf) (n := 2) q2428 q2430 qs88 q140 q2431 (by decide +kernel) rfl ⟨Nat.le_of_ble_eq_true rfl, Nat.le_of_ble_eq_true rfl⟩ rfl (Nat.le_of_ble_eq_true rfl) dX5_shares_51 (fun σ_51 H locs hf M => ?_)
        refine lv_goto (tgt := 11) hx hb dX5_shares_54 (by decide) ?_
        exact ih11  σ_51 _ _ _ M (lv_sub hl [0] rfl) hf
  refine lv_aload_n hx hb dX5_shares_0 rfl (lv_at hl 0 rfl) ?_
  refine lv_iconst (v := 0) hx hb dX5_shares_1 rfl ?_
  refine hm_put23 C M q2090 dX5_shares_2 (fun H locs M => ?_)
  refine lv_aload_n hx hb dX5_shares_5 rfl (lv_at hl 0 rfl) ?_
  refine lv_iload_n hx hb dX5_shares_6 rfl (lv_at hl 1 rfl) ?_
  refine lv_iload_n hx hb dX5_shares_7 rfl (lv_at hl 2 rfl) ?_
  refine hm_cv C M hl.1 (As := [.int a1, .int a2]) (rest := []) (hk_heaps l D dA o b hB a1 a2 (hm_sI σ 23 0) hf) (n := 2) q2420 q2422 qs86 q140 q2423 (by decide +kernel) rfl ⟨Nat.le_of_ble_eq_true rfl, Nat.le_of_ble_eq_true rfl⟩ rfl (Nat.le_of_ble_eq_true rfl) dX5_shares_8 (fun σ_8 H locs hf M => ?_)
  obtain ⟨nn, hf⟩ := hf
  exact B11 nn  σ_8 _ _ _ M (lv_sub hl [0] rfl) hf
def hw_inherits_b155 (k81 : Int32 → Int32 → Int32 → Int32 → Int32 → hm_S → Prop) (v1_155 : Int32) (v3_155 : Int32) (v4_155 : Int32) (v5_155 : Int32) (v6_155 : Int32) (t0_155 : Int32) (σ155 : hm_S) (Q : hm_S → Prop) : Prop := hw_stirpes t0_155 σ155 (fun r_160 σ_160 => ((¬ r_160 = 0 → hw_shares t0_155 v3_155 σ_160 (fun σ_173 => (Q σ_173))) ∧ (r_160 = 0 → k81 v1_155 v3_155 v4_155 v5_155 (v6_155 + 1) σ_160)))
def hw_inherits_b81 : Nat → Int32 → Int32 → Int32 → Int32 → Int32 → hm_S → (hm_S → Prop) → Prop
  | 0, _, _, _, _, _, _, _ => False
  | n81 + 1, v1_81, v3_81, v4_81, v5_81, v6_81, σ81, Q => (5 ≤ v6_81 → vp_in 102 346 ∧ (vp_in 102 346 ∧ (Q (hm_sA σ81 6 102 ((hm_gA σ81 6 102) + v3_81))))) ∧ (¬ 5 ≤ v6_81 → (¬ v6_81 = 0 → (¬ v6_81 = 1 → (¬ v6_81 = 2 → (¬ v6_81 = 3 → hw_childrenOf v5_81 σ81 (fun r_152 σ_152 => (hw_inherits_b155 (fun (u0 : Int32) (u1 : Int32) (u2 : Int32) (u3 : Int32) (u4 : Int32) (τ : hm_S) => hw_inherits_b81  n81 u0 u1 u2 u3 u4 τ Q) v1_81 v3_81 v4_81 v5_81 v6_81 r_152 σ_152 Q))) ∧ (v6_81 = 3 → hw_living  σ81 (fun r_142 σ_142 => (hw_inherits_b155 (fun (u0 : Int32) (u1 : Int32) (u2 : Int32) (u3 : Int32) (u4 : Int32) (τ : hm_S) => hw_inherits_b81  n81 u0 u1 u2 u3 u4 τ Q) v1_81 v3_81 v4_81 v5_81 v6_81 (v5_81 &&& r_142) σ_142 Q)))) ∧ (v6_81 = 2 → hw_childrenOf v4_81 σ81 (fun r_127 σ_127 => (hw_inherits_b155 (fun (u0 : Int32) (u1 : Int32) (u2 : Int32) (u3 : Int32) (u4 : Int32) (τ : hm_S) => hw_inherits_b81  n81 u0 u1 u2 u3 u4 τ Q) v1_81 v3_81 v4_81 v5_81 v6_81 r_127 σ_127 Q)))) ∧ (v6_81 = 1 → hw_living  σ81 (fun r_111 σ_111 => (hw_inherits_b155 (fun (u0 : Int32) (u1 : Int32) (u2 : Int32) (u3 : Int32) (u4 : Int32) (τ : hm_S) => hw_inherits_b81  n81 u0 u1 u2 u3 u4 τ Q) v1_81 v3_81 v4_81 v5_81 v6_81 (v4_81 &&& r_111) σ_111 Q)))) ∧ (v6_81 = 0 → hw_childrenOf ((1 : Int32) <<< (v1_81 &&& 31)) σ81 (fun r_96 σ_96 => (hw_inherits_b155 (fun (u0 : Int32) (u1 : Int32) (u2 : Int32) (u3 : Int32) (u4 : Int32) (τ : hm_S) => hw_inherits_b81  n81 u0 u1 u2 u3 u4 τ Q) v1_81 v3_81 v4_81 v5_81 v6_81 r_96 σ_96 Q))))
def hw_inherits_b27 (v1_27 : Int32) (v2_27 : Int32) (v3_27 : Int32) (t0_27 : Int32) (σ27 : hm_S) (Q : hm_S → Prop) : Prop := vp_in (105 + v2_27) 346 ∧ (vp_in (105 + v2_27) 346 ∧ (hw_childrenOf ((1 : Int32) <<< (v1_27 &&& 31)) (hm_sA σ27 6 (105 + v2_27) ((hm_gA σ27 6 (105 + v2_27)) + t0_27)) (fun r_48 σ_48 => (hw_shares r_48 (v3_27 - t0_27) σ_48 (fun σ_55 => (Q σ_55))))))
def hw_inherits (a1 : Int32) (a2 : Int32) (a3 : Int32) (σ : hm_S) (Q : hm_S → Prop) : Prop := (a2 < 0 → vp_in (27 + a1) 346 ∧ (hw_parentsOf (hm_gA σ 6 (27 + a1)) σ (fun r_73 σ_73 => (∃ n, hw_inherits_b81  n a1 a3 (hm_gA σ 6 (27 + a1)) r_73 0 σ_73 Q)))) ∧ (¬ a2 < 0 → hw_livingIssue a1 σ (fun r_6 σ_6 => ((¬ r_6 = 0 → vp_in 2 346 ∧ (hw_inherits_b27  a1 a2 a3 ((a3 * (hm_gA σ_6 6 2)) / 100) σ_6 Q)) ∧ (r_6 = 0 → hw_inherits_b27  a1 a2 a3 a3 σ_6 Q))))
set_option maxHeartbeats 4000000 in
set_option maxRecDepth 100000 in
theorem hk_inherits (l : Launch) (D : va_G) (dA : Nat → ClassId) (o : Nat) (b : Nat → Nat) (hB : hm_D dA o b) (a1 : Int32) (a2 : Int32) (a3 : Int32) (σ : hm_S) {Q : hm_S → Prop} (hf : hw_inherits a1 a2 a3 σ Q) : Met l yX5_inherits (ws_ yX5_inherits cX5_inherits 8 none) (hb_R 5 112) (va_Pc [.ref o, .int a1, .int a2, .int a3] (hm_U D dA o b σ)) (va_Qv Q (hm_U D dA o b) (hm_A o b)) 0 0 (hm_A o b) := by
  refine hm_Mv hB (LV := [(0, .ref o), (1, .int a1), (2, .int a2), (3, .int a3)]) (by decide) rfl (Nat.le_of_ble_eq_true rfl) (fun p e s m args below meth c ls QQ C M hl hret => ?_)
  have hx := C.1.1
  have hb := C.1.2.1
  have B81 : ∀ (n81 : Nat) (v1_81 : Int32) (v3_81 : Int32) (v4_81 : Int32) (v5_81 : Int32) (v6_81 : Int32) (σ81 : hm_S) (H : Heap) (locs : List Loc) (ls : Array Slot), hm_M D dA o b s.heap σ81 H locs → lv_has ls 8 [(0, .ref o), (1, .int v1_81), (3, .int v3_81), (4, .int v4_81), (5, .int v5_81), (6, .int v6_81)] → hw_inherits_b81  n81 v1_81 v3_81 v4_81 v5_81 v6_81 σ81 Q → W p l e (hb_R 5 112) s m args below meth c H locs 0 0 QQ (F0 m 81 ls []) := by
    intro n81
    induction n81 with
    | zero => intro v1_81 v3_81 v4_81 v5_81 v6_81 σ81 H locs ls M hl hf; exact hf.elim
    | succ n81 ih81 =>
      have B155 : ∀ (v1_155 : Int32) (v3_155 : Int32) (v4_155 : Int32) (v5_155 : Int32) (v6_155 : Int32) (t0_155 : Int32) (σ155 : hm_S) (H : Heap) (locs : List Loc) (ls : Array Slot), hm_M D dA o b s.heap σ155 H locs → lv_has ls 8 [(0, .ref o), (1, .int v1_155), (3, .int v3_155), (4, .int v4_155), (5, .int v5_155), (6, .int v6_155)] → hw_inherits_b155 (fun (u0 : Int32) (u1 : Int32) (u2 : Int32) (u3 : Int32) (u4 : Int32) (τ : hm_S) => hw_inherits_b81  n81 u0 u1 u2 u3 u4 τ Q) v1_155 v3_155 v4_155 v5_155 v6_155 t0_155 σ155 Q → W p l e (hb_R 5 112) s m args below meth c H locs 0 0 QQ (F0 m 155 ls [.int t0_155]) := by
        intro v1_155 v3_155 v4_155 v5_155 v6_155 t0_155 σ155 H locs ls M hl hf
        refine lv_istore (lv' := [(7, .int t0_155), (0, .ref o), (1, .int v1_155), (3, .int v3_155), (4, .int v4_155), (5, .int v5_155), (6, .int v6_155)]) hx hb dX5_inherits_155 hl (by decide) rfl (fun ls hl => ?_)
        refine lv_aload_n hx hb dX5_inherits_157 rfl (lv_at hl 1 rfl) ?_
        refine lv_iload hx hb dX5_inherits_158 (lv_at hl 0 rfl) ?_
        refine hm_ci C M hl.1 (As := [.int t0_155]) (rest := []) (hk_stirpes l D dA o b hB t0_155 σ155 hf) (n := 1) q2424 q2426 qs87 q140 q2427 (by decide +kernel) rfl ⟨Nat.le_of_ble_eq_true rfl, Nat.le_of_ble_eq_true rfl⟩ rfl (Nat.le_of_ble_eq_true rfl) dX5_inherits_160 (fun r_160 σ_160 H locs hf M => ?_)
        obtain ⟨hft, hff⟩ := hf
        refine lv_if_ne (tgt := 169) hx hb dX5_inherits_163 (by decide) (fun c1 => ?_) (fun c1 => ?_)
        · have hf := hft c1
          refine lv_aload_n hx hb dX5_inherits_169 rfl (lv_at hl 1 rfl) ?_
          refine lv_iload hx hb dX5_inherits_170 (lv_at hl 0 rfl) ?_
          refine lv_iload_n hx hb dX5_inherits_172 rfl (lv_at hl 3 rfl) ?_
          refine hm_cv C M hl.1 (As := [.int t0_155, .int v3_155]) (rest := []) (hk_shares l D dA o b hB t0_155 v3_155 σ_160 hf) (n := 2) q2416 q2418 qs85 q140 q2419 (by decide +kernel) rfl ⟨Nat.le_of_ble_eq_true rfl, Nat.le_of_ble_eq_true rfl⟩ rfl (Nat.le_of_ble_eq_true rfl) dX5_inherits_173 (fun σ_173 H locs hf M => ?_)
          exact hret _ _ _ _ _ dX5_inherits_176 M hf
        · have hf := hff c1
          refine lv_goto (tgt := 177) hx hb dX5_inherits_166 (by decide) ?_
          refine lv_iinc (v := v6_155 + 1) (lv' := [(6, .int (v6_155 + 1)), (7, .int t0_155), (0, .ref o), (1, .int v1_155), (3, .int v3_155), (4, .int v4_155), (5, .int v5_155)]) hx hb dX5_inherits_177 hl (k := 6) rfl rfl (by decide) rfl (fun ls hl => ?_)
          refine lv_goto (tgt := 81) hx hb dX5_inherits_180 (by decide) ?_
          exact ih81 v1_155 v3_155 v4_155 v5_155 (v6_155 + 1) σ_160 _ _ _ M (lv_sub hl [2, 3, 4, 5, 6, 0] rfl) hf
      intro v1_81 v3_81 v4_81 v5_81 v6_81 σ81 H locs ls M hl hf
      refine lv_iload hx hb dX5_inherits_81 (lv_at hl 5 rfl) ?_
      refine lv_iconst (v := 5) hx hb dX5_inherits_83 rfl ?_
      obtain ⟨hft, hff⟩ := hf
      refine lv_icmp_ge (tgt := 183) hx hb dX5_inherits_84 (by decide) (fun c1 => ?_) (fun c1 => ?_)
      · have hf := hft c1
        refine lv_aload_n hx hb dX5_inherits_183 rfl (lv_at hl 0 rfl) ?_
        refine hm_get C M 6 (by decide) q2073 (v := .ref (b 6)) rfl dX5_inherits_184 ?_
        refine lv_bipush (v := 102) hx hb dX5_inherits_187 rfl ?_
        refine lv_dup2_11 hx hb dX5_inherits_189 rfl rfl ?_
        obtain ⟨g1, hf⟩ := hf
        refine hm_ald6 C M g1 dX5_inherits_190 ?_
        refine lv_iload_n hx hb dX5_inherits_191 rfl (lv_at hl 2 rfl) ?_
        refine lv_iadd hx hb dX5_inherits_192 ?_
        obtain ⟨g1, hf⟩ := hf
        refine hm_ast6 C M g1 dX5_inherits_193 (fun H locs M => ?_)
        exact hret _ _ _ _ _ dX5_inherits_194 M hf
      · have hf := hff c1
        refine lv_iload hx hb dX5_inherits_87 (lv_at hl 5 rfl) ?_
        obtain ⟨hft, hff⟩ := hf
        refine lv_if_ne (tgt := 102) hx hb dX5_inherits_89 (by decide) (fun c1 => ?_) (fun c1 => ?_)
        · have hf := hft c1
          refine lv_iload hx hb dX5_inherits_102 (lv_at hl 5 rfl) ?_
          refine lv_iconst (v := 1) hx hb dX5_inherits_104 rfl ?_
          obtain ⟨hft, hff⟩ := hf
          refine lv_icmp_ne (tgt := 118) hx hb dX5_inherits_105 (by decide) (fun c1 => ?_) (fun c1 => ?_)
          · have hf := hft c1
            refine lv_iload hx hb dX5_inherits_118 (lv_at hl 5 rfl) ?_
            refine lv_iconst (v := 2) hx hb dX5_inherits_120 rfl ?_
            obtain ⟨hft, hff⟩ := hf
            refine lv_icmp_ne (tgt := 133) hx hb dX5_inherits_121 (by decide) (fun c1 => ?_) (fun c1 => ?_)
            · have hf := hft c1
              refine lv_iload hx hb dX5_inherits_133 (lv_at hl 5 rfl) ?_
              refine lv_iconst (v := 3) hx hb dX5_inherits_135 rfl ?_
              obtain ⟨hft, hff⟩ := hf
              refine lv_icmp_ne (tgt := 149) hx hb dX5_inherits_136 (by decide) (fun c1 => ?_) (fun c1 => ?_)
              · have hf := hft c1
                refine lv_aload_n hx hb dX5_inherits_149 rfl (lv_at hl 0 rfl) ?_
                refine lv_iload hx hb dX5_inherits_150 (lv_at hl 4 rfl) ?_
                refine hm_ci C M hl.1 (As := [.int v5_81]) (rest := []) (hk_childrenOf l D dA o b hB v5_81 σ81 hf) (n := 1) q2345 q2347 qs72 q140 q2348 (by decide +kernel) rfl ⟨Nat.le_of_ble_eq_true rfl, Nat.le_of_ble_eq_true rfl⟩ rfl (Nat.le_of_ble_eq_true rfl) dX5_inherits_152 (fun r_152 σ_152 H locs hf M => ?_)
                exact B155 v1_81 v3_81 v4_81 v5_81 v6_81 r_152 σ_152 _ _ _ M (lv_sub hl [0, 1, 2, 3, 4, 5] rfl) hf
              · have hf := hff c1
                refine lv_iload hx hb dX5_inherits_139 (lv_at hl 4 rfl) ?_
                refine lv_aload_n hx hb dX5_inherits_141 rfl (lv_at hl 0 rfl) ?_
                refine hm_ci C M hl.1 (As := []) (rest := [.int v5_81]) (hk_living l D dA o b hB  σ81 hf) (n := 0) q2357 q2359 qs75 q140 q2360 (by decide +kernel) rfl ⟨Nat.le_of_ble_eq_true rfl, Nat.le_of_ble_eq_true rfl⟩ rfl (Nat.le_of_ble_eq_true rfl) dX5_inherits_142 (fun r_142 σ_142 H locs hf M => ?_)
                refine lv_iand hx hb dX5_inherits_145 ?_
                refine lv_goto (tgt := 155) hx hb dX5_inherits_146 (by decide) ?_
                exact B155 v1_81 v3_81 v4_81 v5_81 v6_81 (v5_81 &&& r_142) σ_142 _ _ _ M (lv_sub hl [0, 1, 2, 3, 4, 5] rfl) hf
            · have hf := hff c1
              refine lv_aload_n hx hb dX5_inherits_124 rfl (lv_at hl 0 rfl) ?_
              refine lv_iload hx hb dX5_inherits_125 (lv_at hl 3 rfl) ?_
              refine hm_ci C M hl.1 (As := [.int v4_81]) (rest := []) (hk_childrenOf l D dA o b hB v4_81 σ81 hf) (n := 1) q2345 q2347 qs72 q140 q2348 (by decide +kernel) rfl ⟨Nat.le_of_ble_eq_true rfl, Nat.le_of_ble_eq_true rfl⟩ rfl (Nat.le_of_ble_eq_true rfl) dX5_inherits_127 (fun r_127 σ_127 H locs hf M => ?_)
              refine lv_goto (tgt := 155) hx hb dX5_inherits_130 (by decide) ?_
              exact B155 v1_81 v3_81 v4_81 v5_81 v6_81 r_127 σ_127 _ _ _ M (lv_sub hl [0, 1, 2, 3, 4, 5] rfl) hf
          · have hf := hff c1
            refine lv_iload hx hb dX5_inherits_108 (lv_at hl 3 rfl) ?_
            refine lv_aload_n hx hb dX5_inherits_110 rfl (lv_at hl 0 rfl) ?_
            refine hm_ci C M hl.1 (As := []) (rest := [.int v4_81]) (hk_living l D dA o b hB  σ81 hf) (n := 0) q2357 q2359 qs75 q140 q2360 (by decide +kernel) rfl ⟨Nat.le_of_ble_eq_true rfl, Nat.le_of_ble_eq_true rfl⟩ rfl (Nat.le_of_ble_eq_true rfl) dX5_inherits_111 (fun r_111 σ_111 H locs hf M => ?_)
            refine lv_iand hx hb dX5_inherits_114 ?_
            refine lv_goto (tgt := 155) hx hb dX5_inherits_115 (by decide) ?_
            exact B155 v1_81 v3_81 v4_81 v5_81 v6_81 (v4_81 &&& r_111) σ_111 _ _ _ M (lv_sub hl [0, 1, 2, 3, 4, 5] rfl) hf
        · have hf := hff c1
          refine lv_aload_n hx hb dX5_inherits_92 rfl (lv_at hl 0 rfl) ?_
          refine lv_iconst (v := 1) hx hb dX5_inherits_93 rfl ?_
          refine lv_iload_n hx hb dX5_inherits_94 rfl (lv_at hl 1 rfl) ?_
          refine lv_ishl hx hb dX5_inherits_95 ?_
          refine hm_ci C M hl.1 (As := [.int ((1 : Int32) <<< (v1_81 &&& 31))]) (rest := []) (hk_childrenOf l D dA o b hB ((1 : Int32) <<< (v1_81 &&& 31)) σ81 hf) (n := 1) q2345 q2347 qs72 q140 q2348 (by decide +kernel) rfl ⟨Nat.le_of_ble_eq_true rfl, Nat.le_of_ble_eq_true rfl⟩ rfl (Nat.le_of_ble_eq_true rfl) dX5_inherits_96 (fun r_96 σ_96 H locs hf M => ?_)
          refine lv_goto (tgt := 155) hx hb dX5_inherits_99 (by decide) ?_
          exact B155 v1_81 v3_81 v4_81 v5_81 v6_81 r_96 σ_96 _ _ _ M (lv_sub hl [0, 1, 2, 3, 4, 5] rfl) hf
  have B27 : ∀ (v1_27 : Int32) (v2_27 : Int32) (v3_27 : Int32) (t0_27 : Int32) (σ27 : hm_S) (H : Heap) (locs : List Loc) (ls : Array Slot), hm_M D dA o b s.heap σ27 H locs → lv_has ls 8 [(0, .ref o), (1, .int v1_27), (2, .int v2_27), (3, .int v3_27)] → hw_inherits_b27  v1_27 v2_27 v3_27 t0_27 σ27 Q → W p l e (hb_R 5 112) s m args below meth c H locs 0 0 QQ (F0 m 27 ls [.int t0_27]) := by
    intro v1_27 v2_27 v3_27 t0_27 σ27 H locs ls M hl hf
    refine lv_istore (lv' := [(4, .int t0_27), (0, .ref o), (1, .int v1_27), (2, .int v2_27), (3, .int v3_27)]) hx hb dX5_inherits_27 hl (by decide) rfl (fun ls hl => ?_)
    refine lv_aload_n hx hb dX5_inherits_29 rfl (lv_at hl 1 rfl) ?_
    refine hm_get C M 6 (by decide) q2073 (v := .ref (b 6)) rfl dX5_inherits_30 ?_
    refine lv_bipush (v := 105) hx hb dX5_inherits_33 rfl ?_
    refine lv_iload_n hx hb dX5_inherits_35 rfl (lv_at hl 3 rfl) ?_
    refine lv_iadd hx hb dX5_inherits_36 ?_
    refine lv_dup2_11 hx hb dX5_inherits_37 rfl rfl ?_
    obtain ⟨g1, hf⟩ := hf
    refine hm_ald6 C M g1 dX5_inherits_38 ?_
    refine lv_iload hx hb dX5_inherits_39 (lv_at hl 0 rfl) ?_
    refine lv_iadd hx hb dX5_inherits_41 ?_
    obtain ⟨g1, hf⟩ := hf
    refine hm_ast6 C M g1 dX5_inherits_42 (fun H locs M => ?_)
    refine lv_aload_n hx hb dX5_inherits_43 rfl (lv_at hl 1 rfl) ?_
    refine lv_aload_n hx hb dX5_inherits_44 rfl (lv_at hl 1 rfl) ?_
    refine lv_iconst (v := 1) hx hb dX5_inherits_45 rfl ?_
    refine lv_iload_n hx hb dX5_inherits_46 rfl (lv_at hl 2 rfl) ?_
    refine lv_ishl hx hb dX5_inherits_47 ?_
    refine hm_ci C M hl.1 (As := [.int ((1 : Int32) <<< (v1_27 &&& 31))]) (rest := [.ref o]) (hk_childrenOf l D dA o b hB ((1 : Int32) <<< (v1_27 &&& 31)) (hm_sA σ27 6 (105 + v2_27) ((hm_gA σ27 6 (105 + v2_27)) + t0_27)) hf) (n := 1) q2345 q2347 qs72 q140 q2348 (by decide +kernel) rfl ⟨Nat.le_of_ble_eq_true rfl, Nat.le_of_ble_eq_true rfl⟩ rfl (Nat.le_of_ble_eq_true rfl) dX5_inherits_48 (fun r_48 σ_48 H locs hf M => ?_)
    refine lv_iload_n hx hb dX5_inherits_51 rfl (lv_at hl 4 rfl) ?_
    refine lv_iload hx hb dX5_inherits_52 (lv_at hl 0 rfl) ?_
    refine lv_isub hx hb dX5_inherits_54 ?_
    refine hm_cv C M hl.1 (As := [.int r_48, .int (v3_27 - t0_27)]) (rest := []) (hk_shares l D dA o b hB r_48 (v3_27 - t0_27) σ_48 hf) (n := 2) q2416 q2418 qs85 q140 q2419 (by decide +kernel) rfl ⟨Nat.le_of_ble_eq_true rfl, Nat.le_of_ble_eq_true rfl⟩ rfl (Nat.le_of_ble_eq_true rfl) dX5_inherits_55 (fun σ_55 H locs hf M => ?_)
    exact hret _ _ _ _ _ dX5_inherits_58 M hf
  refine lv_iload_n hx hb dX5_inherits_0 rfl (lv_at hl 2 rfl) ?_
  obtain ⟨hft, hff⟩ := hf
  refine lv_if_lt (tgt := 59) hx hb dX5_inherits_1 (by decide) (fun c1 => ?_) (fun c1 => ?_)
  · have hf := hft c1
    refine lv_aload_n hx hb dX5_inherits_59 rfl (lv_at hl 0 rfl) ?_
    refine hm_get C M 6 (by decide) q2073 (v := .ref (b 6)) rfl dX5_inherits_60 ?_
    refine lv_bipush (v := 27) hx hb dX5_inherits_63 rfl ?_
    refine lv_iload_n hx hb dX5_inherits_65 rfl (lv_at hl 1 rfl) ?_
    refine lv_iadd hx hb dX5_inherits_66 ?_
    obtain ⟨g1, hf⟩ := hf
    refine hm_ald6 C M g1 dX5_inherits_67 ?_
    refine lv_istore (lv' := [(4, .int (hm_gA σ 6 (27 + a1))), (0, .ref o), (1, .int a1), (2, .int a2), (3, .int a3)]) hx hb dX5_inherits_68 hl (by decide) rfl (fun ls hl => ?_)
    refine lv_aload_n hx hb dX5_inherits_70 rfl (lv_at hl 1 rfl) ?_
    refine lv_iload hx hb dX5_inherits_71 (lv_at hl 0 rfl) ?_
    refine hm_ci C M hl.1 (As := [.int (hm_gA σ 6 (27 + a1))]) (rest := []) (hk_parentsOf l D dA o b hB (hm_gA σ 6 (27 + a1)) σ hf) (n := 1) q2377 q2379 qs78 q140 q2380 (by decide +kernel) rfl ⟨Nat.le_of_ble_eq_true rfl, Nat.le_of_ble_eq_true rfl⟩ rfl (Nat.le_of_ble_eq_true rfl) dX5_inherits_73 (fun r_73 σ_73 H locs hf M => ?_)
    refine lv_istore (lv' := [(5, .int r_73), (4, .int (hm_gA σ 6 (27 + a1))), (0, .ref o), (1, .int a1), (2, .int a2), (3, .int a3)]) hx hb dX5_inherits_76 hl (by decide) rfl (fun ls hl => ?_)
    refine lv_iconst (v := 0) hx hb dX5_inherits_78 rfl ?_
    refine lv_istore (lv' := [(6, .int 0), (5, .int r_73), (4, .int (hm_gA σ 6 (27 + a1))), (0, .ref o), (1, .int a1), (2, .int a2), (3, .int a3)]) hx hb dX5_inherits_79 hl (by decide) rfl (fun ls hl => ?_)
    obtain ⟨nn, hf⟩ := hf
    exact B81 nn a1 a3 (hm_gA σ 6 (27 + a1)) r_73 0 σ_73 _ _ _ M (lv_sub hl [3, 4, 6, 2, 1, 0] rfl) hf
  · have hf := hff c1
    refine lv_aload_n hx hb dX5_inherits_4 rfl (lv_at hl 0 rfl) ?_
    refine lv_iload_n hx hb dX5_inherits_5 rfl (lv_at hl 1 rfl) ?_
    refine hm_ci C M hl.1 (As := [.int a1]) (rest := []) (hk_livingIssue l D dA o b hB a1 σ hf) (n := 1) q2349 q2351 qs73 q140 q2352 (by decide +kernel) rfl ⟨Nat.le_of_ble_eq_true rfl, Nat.le_of_ble_eq_true rfl⟩ rfl (Nat.le_of_ble_eq_true rfl) dX5_inherits_6 (fun r_6 σ_6 H locs hf M => ?_)
    obtain ⟨hft, hff⟩ := hf
    refine lv_if_ne (tgt := 16) hx hb dX5_inherits_9 (by decide) (fun c1 => ?_) (fun c1 => ?_)
    · have hf := hft c1
      refine lv_iload_n hx hb dX5_inherits_16 rfl (lv_at hl 3 rfl) ?_
      refine lv_aload_n hx hb dX5_inherits_17 rfl (lv_at hl 0 rfl) ?_
      refine hm_get C M 6 (by decide) q2073 (v := .ref (b 6)) rfl dX5_inherits_18 ?_
      refine lv_iconst (v := 2) hx hb dX5_inherits_21 rfl ?_
      obtain ⟨g1, hf⟩ := hf
      refine hm_ald6 C M g1 dX5_inherits_22 ?_
      refine lv_imul hx hb dX5_inherits_23 ?_
      refine lv_bipush (v := 100) hx hb dX5_inherits_24 rfl ?_
      refine lv_idiv hx hb dX5_inherits_26 (by decide) ?_
      exact B27 a1 a2 a3 ((a3 * (hm_gA σ_6 6 2)) / 100) σ_6 _ _ _ M (lv_sub hl [0, 1, 2, 3] rfl) hf
    · have hf := hff c1
      refine lv_iload_n hx hb dX5_inherits_12 rfl (lv_at hl 3 rfl) ?_
      refine lv_goto (tgt := 27) hx hb dX5_inherits_13 (by decide) ?_
      exact B27 a1 a2 a3 a3 σ_6 _ _ _ M (lv_sub hl [0, 1, 2, 3] rfl) hf
def hw_lesser (a0 : Int32) (a1 : Int32) (σ : hm_S) (Q : Int32 → hm_S → Prop) : Prop := (a1 ≤ a0 → Q a1 σ) ∧ (¬ a1 ≤ a0 → Q a0 σ)
set_option maxHeartbeats 4000000 in
set_option maxRecDepth 100000 in
theorem hk_lesser (l : Launch) (D : va_G) (dA : Nat → ClassId) (o : Nat) (b : Nat → Nat) (hB : hm_D dA o b) (a0 : Int32) (a1 : Int32) (σ : hm_S) {Q : Int32 → hm_S → Prop} (hf : hw_lesser a0 a1 σ Q) : Met l yX5_lesser (ws_ yX5_lesser cX5_lesser 2 (some .int)) (hb_R 0 0) (va_Pc [.int a0, .int a1] (hm_U D dA o b σ)) (va_Qi Q (hm_U D dA o b) (hm_A o b)) 0 0 (hm_A o b) := by
  refine hm_Mi hB (LV := [(0, .int a0), (1, .int a1)]) (by decide) rfl (Nat.le_of_ble_eq_true rfl) (fun p e s m args below meth c ls QQ C M hl hret => ?_)
  have hx := C.1.1
  have hb := C.1.2.1
  refine lv_iload_n hx hb dX5_lesser_0 rfl (lv_at hl 0 rfl) ?_
  refine lv_iload_n hx hb dX5_lesser_1 rfl (lv_at hl 1 rfl) ?_
  obtain ⟨hft, hff⟩ := hf
  refine lv_icmp_ge (tgt := 9) hx hb dX5_lesser_2 (by decide) (fun c1 => ?_) (fun c1 => ?_)
  · have hf := hft c1
    refine lv_iload_n hx hb dX5_lesser_9 rfl (lv_at hl 1 rfl) ?_
    exact hret _ _ _ _ _ _ dX5_lesser_10 M hf
  · have hf := hff c1
    refine lv_iload_n hx hb dX5_lesser_5 rfl (lv_at hl 0 rfl) ?_
    refine lv_goto (tgt := 10) hx hb dX5_lesser_6 (by decide) ?_
    exact hret _ _ _ _ _ _ dX5_lesser_10 M hf
def hw_parts0 (a1 : Int32) (σ : hm_S) (Q : hm_S → Prop) : Prop := vp_in (117 + a1) 346 ∧ (vp_in (117 + a1) 346 ∧ ((((hm_gA σ 6 (117 + a1)) - 1) < 0 → Q (hm_sA σ 6 (117 + a1) 0)) ∧ (¬ ((hm_gA σ 6 (117 + a1)) - 1) < 0 → vp_in (117 + ((hm_gA σ 6 (117 + a1)) - 1)) 346 ∧ (Q (hm_sA (hm_sA σ 6 (117 + a1) 0) 6 (117 + ((hm_gA σ 6 (117 + a1)) - 1)) 0)))))
set_option maxHeartbeats 4000000 in
set_option maxRecDepth 100000 in
theorem hk_parts0 (l : Launch) (D : va_G) (dA : Nat → ClassId) (o : Nat) (b : Nat → Nat) (hB : hm_D dA o b) (a1 : Int32) (σ : hm_S) {Q : hm_S → Prop} (hf : hw_parts0 a1 σ Q) : Met l yX5_parts0 (ws_ yX5_parts0 cX5_parts0 3 none) (hb_R 0 0) (va_Pc [.ref o, .int a1] (hm_U D dA o b σ)) (va_Qv Q (hm_U D dA o b) (hm_A o b)) 0 0 (hm_A o b) := by
  refine hm_Mv hB (LV := [(0, .ref o), (1, .int a1)]) (by decide) rfl (Nat.le_of_ble_eq_true rfl) (fun p e s m args below meth c ls QQ C M hl hret => ?_)
  have hx := C.1.1
  have hb := C.1.2.1
  refine lv_aload_n hx hb dX5_parts0_0 rfl (lv_at hl 0 rfl) ?_
  refine hm_get C M 6 (by decide) q2073 (v := .ref (b 6)) rfl dX5_parts0_1 ?_
  refine lv_bipush (v := 117) hx hb dX5_parts0_4 rfl ?_
  refine lv_iload_n hx hb dX5_parts0_6 rfl (lv_at hl 1 rfl) ?_
  refine lv_iadd hx hb dX5_parts0_7 ?_
  obtain ⟨g1, hf⟩ := hf
  refine hm_ald6 C M g1 dX5_parts0_8 ?_
  refine lv_iconst (v := 1) hx hb dX5_parts0_9 rfl ?_
  refine lv_isub hx hb dX5_parts0_10 ?_
  refine lv_istore_n (lv' := [(2, .int ((hm_gA σ 6 (117 + a1)) - 1)), (0, .ref o), (1, .int a1)]) hx hb dX5_parts0_11 rfl hl (by decide) rfl (fun ls hl => ?_)
  refine lv_aload_n hx hb dX5_parts0_12 rfl (lv_at hl 1 rfl) ?_
  refine hm_get C M 6 (by decide) q2073 (v := .ref (b 6)) rfl dX5_parts0_13 ?_
  refine lv_bipush (v := 117) hx hb dX5_parts0_16 rfl ?_
  refine lv_iload_n hx hb dX5_parts0_18 rfl (lv_at hl 2 rfl) ?_
  refine lv_iadd hx hb dX5_parts0_19 ?_
  refine lv_iconst (v := 0) hx hb dX5_parts0_20 rfl ?_
  obtain ⟨g1, hf⟩ := hf
  refine hm_ast6 C M g1 dX5_parts0_21 (fun H locs M => ?_)
  refine lv_iload_n hx hb dX5_parts0_22 rfl (lv_at hl 0 rfl) ?_
  obtain ⟨hft, hff⟩ := hf
  refine lv_if_lt (tgt := 36) hx hb dX5_parts0_23 (by decide) (fun c1 => ?_) (fun c1 => ?_)
  · have hf := hft c1
    exact hret _ _ _ _ _ dX5_parts0_36 M hf
  · have hf := hff c1
    refine lv_aload_n hx hb dX5_parts0_26 rfl (lv_at hl 1 rfl) ?_
    refine hm_get C M 6 (by decide) q2073 (v := .ref (b 6)) rfl dX5_parts0_27 ?_
    refine lv_bipush (v := 117) hx hb dX5_parts0_30 rfl ?_
    refine lv_iload_n hx hb dX5_parts0_32 rfl (lv_at hl 0 rfl) ?_
    refine lv_iadd hx hb dX5_parts0_33 ?_
    refine lv_iconst (v := 0) hx hb dX5_parts0_34 rfl ?_
    obtain ⟨g1, hf⟩ := hf
    refine hm_ast6 C M g1 dX5_parts0_35 (fun H locs M => ?_)
    exact hret _ _ _ _ _ dX5_parts0_36 M hf
def hw_revokes_b103 : Nat → Int32 → Int32 → hm_S → (hm_S → Prop) → Prop
  | 0, _, _, _, _ => False
  | n103 + 1, v2_103, v3_103, σ103, Q => vp_in 104 346 ∧ (((hm_gA σ103 6 104) ≤ v3_103 → vp_in 104 346 ∧ (Q (hm_sA σ103 6 104 v2_103))) ∧ (¬ (hm_gA σ103 6 104) ≤ v3_103 → vp_in (129 + v3_103) 346 ∧ (vp_in (141 + v3_103) 346 ∧ (vp_in (153 + v3_103) 346 ∧ (hw_revokes_b103  n103 v2_103 (v3_103 + 1) (hm_sA (hm_sA (hm_sA σ103 6 (129 + v3_103) 0) 6 (141 + v3_103) 0) 6 (153 + v3_103) 0) Q)))))
def hw_revokes_b4 : Nat → Int32 → Int32 → Int32 → hm_S → (hm_S → Prop) → Prop
  | 0, _, _, _, _, _ => False
  | n4 + 1, v1_4, v2_4, v3_4, σ4, Q => vp_in 104 346 ∧ (((hm_gA σ4 6 104) ≤ v3_4 → ∃ n, hw_revokes_b103  n v2_4 v2_4 σ4 Q) ∧ (¬ (hm_gA σ4 6 104) ≤ v3_4 → vp_in (129 + v3_4) 346 ∧ ((¬ (hm_gA σ4 6 (129 + v3_4)) = v1_4 → vp_in (129 + v3_4) 346 ∧ (vp_in (129 + v2_4) 346 ∧ (vp_in (141 + v3_4) 346 ∧ (vp_in (141 + v2_4) 346 ∧ (vp_in (153 + v3_4) 346 ∧ (vp_in (153 + v2_4) 346 ∧ (hw_revokes_b4  n4 v1_4 (v2_4 + 1) (v3_4 + 1) (hm_sA (hm_sA (hm_sA σ4 6 (129 + v2_4) (hm_gA σ4 6 (129 + v3_4))) 6 (141 + v2_4) (hm_gA (hm_sA σ4 6 (129 + v2_4) (hm_gA σ4 6 (129 + v3_4))) 6 (141 + v3_4))) 6 (153 + v2_4) (hm_gA (hm_sA (hm_sA σ4 6 (129 + v2_4) (hm_gA σ4 6 (129 + v3_4))) 6 (141 + v2_4) (hm_gA (hm_sA σ4 6 (129 + v2_4) (hm_gA σ4 6 (129 + v3_4))) 6 (141 + v3_4))) 6 (153 + v3_4))) Q))))))) ∧ ((hm_gA σ4 6 (129 + v3_4)) = v1_4 → hw_revokes_b4  n4 v1_4 v2_4 (v3_4 + 1) σ4 Q))))
def hw_revokes (a1 : Int32) (σ : hm_S) (Q : hm_S → Prop) : Prop := ∃ n, hw_revokes_b4  n a1 0 0 σ Q
set_option maxHeartbeats 4000000 in
set_option maxRecDepth 100000 in
theorem hk_revokes (l : Launch) (D : va_G) (dA : Nat → ClassId) (o : Nat) (b : Nat → Nat) (hB : hm_D dA o b) (a1 : Int32) (σ : hm_S) {Q : hm_S → Prop} (hf : hw_revokes a1 σ Q) : Met l yX5_revokes (ws_ yX5_revokes cX5_revokes 4 none) (hb_R 0 0) (va_Pc [.ref o, .int a1] (hm_U D dA o b σ)) (va_Qv Q (hm_U D dA o b) (hm_A o b)) 0 0 (hm_A o b) := by
  refine hm_Mv hB (LV := [(0, .ref o), (1, .int a1)]) (by decide) rfl (Nat.le_of_ble_eq_true rfl) (fun p e s m args below meth c ls QQ C M hl hret => ?_)
  have hx := C.1.1
  have hb := C.1.2.1
  have B103 : ∀ (n103 : Nat) (v2_103 : Int32) (v3_103 : Int32) (σ103 : hm_S) (H : Heap) (locs : List Loc) (ls : Array Slot), hm_M D dA o b s.heap σ103 H locs → lv_has ls 4 [(0, .ref o), (2, .int v2_103), (3, .int v3_103)] → hw_revokes_b103  n103 v2_103 v3_103 σ103 Q → W p l e (hb_R 0 0) s m args below meth c H locs 0 0 QQ (F0 m 103 ls []) := by
    intro n103
    induction n103 with
    | zero => intro v2_103 v3_103 σ103 H locs ls M hl hf; exact hf.elim
    | succ n103 ih103 =>
      intro v2_103 v3_103 σ103 H locs ls M hl hf
      refine lv_iload_n hx hb dX5_revokes_103 rfl (lv_at hl 2 rfl) ?_
      refine lv_aload_n hx hb dX5_revokes_104 rfl (lv_at hl 0 rfl) ?_
      refine hm_get C M 6 (by decide) q2073 (v := .ref (b 6)) rfl dX5_revokes_105 ?_
      refine lv_bipush (v := 104) hx hb dX5_revokes_108 rfl ?_
      obtain ⟨g1, hf⟩ := hf
      refine hm_ald6 C M g1 dX5_revokes_110 ?_
      obtain ⟨hft, hff⟩ := hf
      refine lv_icmp_ge (tgt := 153) hx hb dX5_revokes_111 (by decide) (fun c1 => ?_) (fun c1 => ?_)
      · have hf := hft c1
        refine lv_aload_n hx hb dX5_revokes_153 rfl (lv_at hl 0 rfl) ?_
        refine hm_get C M 6 (by decide) q2073 (v := .ref (b 6)) rfl dX5_revokes_154 ?_
        refine lv_bipush (v := 104) hx hb dX5_revokes_157 rfl ?_
        refine lv_iload_n hx hb dX5_revokes_159 rfl (lv_at hl 1 rfl) ?_
        obtain ⟨g1, hf⟩ := hf
        refine hm_ast6 C M g1 dX5_revokes_160 (fun H locs M => ?_)
        exact hret _ _ _ _ _ dX5_revokes_161 M hf
      · have hf := hff c1
        refine lv_aload_n hx hb dX5_revokes_114 rfl (lv_at hl 0 rfl) ?_
        refine hm_get C M 6 (by decide) q2073 (v := .ref (b 6)) rfl dX5_revokes_115 ?_
        refine lv_sipush (v := 129) hx hb dX5_revokes_118 rfl ?_
        refine lv_iload_n hx hb dX5_revokes_121 rfl (lv_at hl 2 rfl) ?_
        refine lv_iadd hx hb dX5_revokes_122 ?_
        refine lv_iconst (v := 0) hx hb dX5_revokes_123 rfl ?_
        obtain ⟨g1, hf⟩ := hf
        refine hm_ast6 C M g1 dX5_revokes_124 (fun H locs M => ?_)
        refine lv_aload_n hx hb dX5_revokes_125 rfl (lv_at hl 0 rfl) ?_
        refine hm_get C M 6 (by decide) q2073 (v := .ref (b 6)) rfl dX5_revokes_126 ?_
        refine lv_sipush (v := 141) hx hb dX5_revokes_129 rfl ?_
        refine lv_iload_n hx hb dX5_revokes_132 rfl (lv_at hl 2 rfl) ?_
        refine lv_iadd hx hb dX5_revokes_133 ?_
        refine lv_iconst (v := 0) hx hb dX5_revokes_134 rfl ?_
        obtain ⟨g1, hf⟩ := hf
        refine hm_ast6 C M g1 dX5_revokes_135 (fun H locs M => ?_)
        refine lv_aload_n hx hb dX5_revokes_136 rfl (lv_at hl 0 rfl) ?_
        refine hm_get C M 6 (by decide) q2073 (v := .ref (b 6)) rfl dX5_revokes_137 ?_
        refine lv_sipush (v := 153) hx hb dX5_revokes_140 rfl ?_
        refine lv_iload_n hx hb dX5_revokes_143 rfl (lv_at hl 2 rfl) ?_
        refine lv_iadd hx hb dX5_revokes_144 ?_
        refine lv_iconst (v := 0) hx hb dX5_revokes_145 rfl ?_
        obtain ⟨g1, hf⟩ := hf
        refine hm_ast6 C M g1 dX5_revokes_146 (fun H locs M => ?_)
        refine lv_iinc (v := v3_103 + 1) (lv' := [(3, .int (v3_103 + 1)), (0, .ref o), (2, .int v2_103)]) hx hb dX5_revokes_147 hl (k := 2) rfl rfl (by decide) rfl (fun ls hl => ?_)
        refine lv_goto (tgt := 103) hx hb dX5_revokes_150 (by decide) ?_
        exact ih103 v2_103 (v3_103 + 1) (hm_sA (hm_sA (hm_sA σ103 6 (129 + v3_103) 0) 6 (141 + v3_103) 0) 6 (153 + v3_103) 0) _ _ _ M (lv_sub hl [1, 2, 0] rfl) hf
  have B4 : ∀ (n4 : Nat) (v1_4 : Int32) (v2_4 : Int32) (v3_4 : Int32) (σ4 : hm_S) (H : Heap) (locs : List Loc) (ls : Array Slot), hm_M D dA o b s.heap σ4 H locs → lv_has ls 4 [(0, .ref o), (1, .int v1_4), (2, .int v2_4), (3, .int v3_4)] → hw_revokes_b4  n4 v1_4 v2_4 v3_4 σ4 Q → W p l e (hb_R 0 0) s m args below meth c H locs 0 0 QQ (F0 m 4 ls []) := by
    intro n4
    induction n4 with
    | zero => intro v1_4 v2_4 v3_4 σ4 H locs ls M hl hf; exact hf.elim
    | succ n4 ih4 =>
      intro v1_4 v2_4 v3_4 σ4 H locs ls M hl hf
      refine lv_iload_n hx hb dX5_revokes_4 rfl (lv_at hl 3 rfl) ?_
      refine lv_aload_n hx hb dX5_revokes_5 rfl (lv_at hl 0 rfl) ?_
      refine hm_get C M 6 (by decide) q2073 (v := .ref (b 6)) rfl dX5_revokes_6 ?_
      refine lv_bipush (v := 104) hx hb dX5_revokes_9 rfl ?_
      obtain ⟨g1, hf⟩ := hf
      refine hm_ald6 C M g1 dX5_revokes_11 ?_
      obtain ⟨hft, hff⟩ := hf
      refine lv_icmp_ge (tgt := 101) hx hb dX5_revokes_12 (by decide) (fun c1 => ?_) (fun c1 => ?_)
      · have hf := hft c1
        refine lv_iload_n hx hb dX5_revokes_101 rfl (lv_at hl 2 rfl) ?_
        refine lv_istore_n (lv' := [(3, .int v2_4), (0, .ref o), (1, .int v1_4), (2, .int v2_4)]) hx hb dX5_revokes_102 rfl hl (by decide) rfl (fun ls hl => ?_)
        obtain ⟨nn, hf⟩ := hf
        exact B103 nn v2_4 v2_4 σ4 _ _ _ M (lv_sub hl [1, 3, 0] rfl) hf
      · have hf := hff c1
        refine lv_aload_n hx hb dX5_revokes_15 rfl (lv_at hl 0 rfl) ?_
        refine hm_get C M 6 (by decide) q2073 (v := .ref (b 6)) rfl dX5_revokes_16 ?_
        refine lv_sipush (v := 129) hx hb dX5_revokes_19 rfl ?_
        refine lv_iload_n hx hb dX5_revokes_22 rfl (lv_at hl 3 rfl) ?_
        refine lv_iadd hx hb dX5_revokes_23 ?_
        obtain ⟨g1, hf⟩ := hf
        refine hm_ald6 C M g1 dX5_revokes_24 ?_
        refine lv_iload_n hx hb dX5_revokes_25 rfl (lv_at hl 1 rfl) ?_
        obtain ⟨hft, hff⟩ := hf
        refine lv_icmp_ne (tgt := 32) hx hb dX5_revokes_26 (by decide) (fun c1 => ?_) (fun c1 => ?_)
        · have hf := hft c1
          refine lv_aload_n hx hb dX5_revokes_32 rfl (lv_at hl 0 rfl) ?_
          refine hm_get C M 6 (by decide) q2073 (v := .ref (b 6)) rfl dX5_revokes_33 ?_
          refine lv_sipush (v := 129) hx hb dX5_revokes_36 rfl ?_
          refine lv_iload_n hx hb dX5_revokes_39 rfl (lv_at hl 2 rfl) ?_
          refine lv_iadd hx hb dX5_revokes_40 ?_
          refine lv_aload_n hx hb dX5_revokes_41 rfl (lv_at hl 0 rfl) ?_
          refine hm_get C M 6 (by decide) q2073 (v := .ref (b 6)) rfl dX5_revokes_42 ?_
          refine lv_sipush (v := 129) hx hb dX5_revokes_45 rfl ?_
          refine lv_iload_n hx hb dX5_revokes_48 rfl (lv_at hl 3 rfl) ?_
          refine lv_iadd hx hb dX5_revokes_49 ?_
          obtain ⟨g1, hf⟩ := hf
          refine hm_ald6 C M g1 dX5_revokes_50 ?_
          obtain ⟨g1, hf⟩ := hf
          refine hm_ast6 C M g1 dX5_revokes_51 (fun H locs M => ?_)
          refine lv_aload_n hx hb dX5_revokes_52 rfl (lv_at hl 0 rfl) ?_
          refine hm_get C M 6 (by decide) q2073 (v := .ref (b 6)) rfl dX5_revokes_53 ?_
          refine lv_sipush (v := 141) hx hb dX5_revokes_56 rfl ?_
          refine lv_iload_n hx hb dX5_revokes_59 rfl (lv_at hl 2 rfl) ?_
          refine lv_iadd hx hb dX5_revokes_60 ?_
          refine lv_aload_n hx hb dX5_revokes_61 rfl (lv_at hl 0 rfl) ?_
          refine hm_get C M 6 (by decide) q2073 (v := .ref (b 6)) rfl dX5_revokes_62 ?_
          refine lv_sipush (v := 141) hx hb dX5_revokes_65 rfl ?_
          refine lv_iload_n hx hb dX5_revokes_68 rfl (lv_at hl 3 rfl) ?_
          refine lv_iadd hx hb dX5_revokes_69 ?_
          obtain ⟨g1, hf⟩ := hf
          refine hm_ald6 C M g1 dX5_revokes_70 ?_
          obtain ⟨g1, hf⟩ := hf
          refine hm_ast6 C M g1 dX5_revokes_71 (fun H locs M => ?_)
          refine lv_aload_n hx hb dX5_revokes_72 rfl (lv_at hl 0 rfl) ?_
          refine hm_get C M 6 (by decide) q2073 (v := .ref (b 6)) rfl dX5_revokes_73 ?_
          refine lv_sipush (v := 153) hx hb dX5_revokes_76 rfl ?_
          refine lv_iload_n hx hb dX5_revokes_79 rfl (lv_at hl 2 rfl) ?_
          refine lv_iadd hx hb dX5_revokes_80 ?_
          refine lv_aload_n hx hb dX5_revokes_81 rfl (lv_at hl 0 rfl) ?_
          refine hm_get C M 6 (by decide) q2073 (v := .ref (b 6)) rfl dX5_revokes_82 ?_
          refine lv_sipush (v := 153) hx hb dX5_revokes_85 rfl ?_
          refine lv_iload_n hx hb dX5_revokes_88 rfl (lv_at hl 3 rfl) ?_
          refine lv_iadd hx hb dX5_revokes_89 ?_
          obtain ⟨g1, hf⟩ := hf
          refine hm_ald6 C M g1 dX5_revokes_90 ?_
          obtain ⟨g1, hf⟩ := hf
          refine hm_ast6 C M g1 dX5_revokes_91 (fun H locs M => ?_)
          refine lv_iinc (v := v2_4 + 1) (lv' := [(2, .int (v2_4 + 1)), (0, .ref o), (1, .int v1_4), (3, .int v3_4)]) hx hb dX5_revokes_92 hl (k := 2) rfl rfl (by decide) rfl (fun ls hl => ?_)
          refine lv_iinc (v := v3_4 + 1) (lv' := [(3, .int (v3_4 + 1)), (2, .int (v2_4 + 1)), (0, .ref o), (1, .int v1_4)]) hx hb dX5_revokes_95 hl (k := 3) rfl rfl (by decide) rfl (fun ls hl => ?_)
          refine lv_goto (tgt := 4) hx hb dX5_revokes_98 (by decide) ?_
          exact ih4 v1_4 (v2_4 + 1) (v3_4 + 1) (hm_sA (hm_sA (hm_sA σ4 6 (129 + v2_4) (hm_gA σ4 6 (129 + v3_4))) 6 (141 + v2_4) (hm_gA (hm_sA σ4 6 (129 + v2_4) (hm_gA σ4 6 (129 + v3_4))) 6 (141 + v3_4))) 6 (153 + v2_4) (hm_gA (hm_sA (hm_sA σ4 6 (129 + v2_4) (hm_gA σ4 6 (129 + v3_4))) 6 (141 + v2_4) (hm_gA (hm_sA σ4 6 (129 + v2_4) (hm_gA σ4 6 (129 + v3_4))) 6 (141 + v3_4))) 6 (153 + v3_4))) _ _ _ M (lv_sub hl [2, 3, 1, 0] rfl) hf
        · have hf := hff c1
          refine lv_goto (tgt := 95) hx hb dX5_revokes_29 (by decide) ?_
          refine lv_iinc (v := v3_4 + 1) (lv' := [(3, .int (v3_4 + 1)), (0, .ref o), (1, .int v1_4), (2, .int v2_4)]) hx hb dX5_revokes_95 hl (k := 3) rfl rfl (by decide) rfl (fun ls hl => ?_)
          refine lv_goto (tgt := 4) hx hb dX5_revokes_98 (by decide) ?_
          exact ih4 v1_4 v2_4 (v3_4 + 1) σ4 _ _ _ M (lv_sub hl [1, 2, 3, 0] rfl) hf
  refine lv_iconst (v := 0) hx hb dX5_revokes_0 rfl ?_
  refine lv_istore_n (lv' := [(2, .int 0), (0, .ref o), (1, .int a1)]) hx hb dX5_revokes_1 rfl hl (by decide) rfl (fun ls hl => ?_)
  refine lv_iconst (v := 0) hx hb dX5_revokes_2 rfl ?_
  refine lv_istore_n (lv' := [(3, .int 0), (2, .int 0), (0, .ref o), (1, .int a1)]) hx hb dX5_revokes_3 rfl hl (by decide) rfl (fun ls hl => ?_)
  obtain ⟨nn, hf⟩ := hf
  exact B4 nn a1 0 0 σ _ _ _ M (lv_sub hl [2, 3, 1, 0] rfl) hf
def hw_dies_b64 : Nat → Int32 → Int32 → Int32 → Int32 → hm_S → (hm_S → Prop) → Prop
  | 0, _, _, _, _, _, _ => False
  | n64 + 1, v1_64, v2_64, v3_64, v4_64, σ64, Q => vp_in 104 346 ∧ (((hm_gA σ64 6 104) ≤ v4_64 → hw_revokes v1_64 σ64 (fun σ_166 => ((v3_64 ≤ 0 → Q σ_166) ∧ (¬ v3_64 ≤ 0 → hw_inherits v1_64 v2_64 v3_64 σ_166 (fun σ_177 => (Q σ_177)))))) ∧ (¬ (hm_gA σ64 6 104) ≤ v4_64 → vp_in (129 + v4_64) 346 ∧ ((¬ (hm_gA σ64 6 (129 + v4_64)) = v1_64 → hw_dies_b64  n64 v1_64 v2_64 v3_64 (v4_64 + 1) σ64 Q) ∧ ((hm_gA σ64 6 (129 + v4_64)) = v1_64 → vp_in (141 + v4_64) 346 ∧ (hw_isLiving (hm_gA σ64 6 (141 + v4_64)) σ64 (fun r_103 σ_103 => ((¬ r_103 = 0 → vp_in (153 + v4_64) 346 ∧ (hw_lesser v3_64 (hm_gA σ_103 6 (153 + v4_64)) σ_103 (fun r_124 σ_124 => (vp_in (141 + v4_64) 346 ∧ (vp_in (105 + (hm_gA σ_124 6 (141 + v4_64))) 346 ∧ (vp_in (105 + (hm_gA σ_124 6 (141 + v4_64))) 346 ∧ (hw_dies_b64  n64 v1_64 v2_64 (v3_64 - r_124) (v4_64 + 1) (hm_sA σ_124 6 (105 + (hm_gA σ_124 6 (141 + v4_64))) ((hm_gA σ_124 6 (105 + (hm_gA σ_124 6 (141 + v4_64)))) + r_124)) Q))))))) ∧ (r_103 = 0 → hw_dies_b64  n64 v1_64 v2_64 v3_64 (v4_64 + 1) σ_103 Q))))))))
def hw_dies (a1 : Int32) (σ : hm_S) (Q : hm_S → Prop) : Prop := vp_in (117 + a1) 346 ∧ (vp_in (105 + a1) 346 ∧ (vp_in 101 346 ∧ (vp_in 101 346 ∧ (vp_in 103 346 ∧ (vp_in 103 346 ∧ (vp_in (105 + a1) 346 ∧ (hw_parts0 a1 (hm_sA (hm_sA (hm_sA σ 6 101 ((hm_gA σ 6 101) ||| ((1 : Int32) <<< (a1 &&& 31)))) 6 103 ((hm_gA (hm_sA σ 6 101 ((hm_gA σ 6 101) ||| ((1 : Int32) <<< (a1 &&& 31)))) 6 103) + 1)) 6 (105 + a1) 0) (fun σ_58 => (∃ n, hw_dies_b64  n a1 ((hm_gA σ 6 (117 + a1)) - 1) (hm_gA σ 6 (105 + a1)) 0 σ_58 Q)))))))))
set_option maxHeartbeats 4000000 in
set_option maxRecDepth 100000 in
theorem hk_dies (l : Launch) (D : va_G) (dA : Nat → ClassId) (o : Nat) (b : Nat → Nat) (hB : hm_D dA o b) (a1 : Int32) (σ : hm_S) {Q : hm_S → Prop} (hf : hw_dies a1 σ Q) : Met l yX5_dies (ws_ yX5_dies cX5_dies 6 none) (hb_R 6 139) (va_Pc [.ref o, .int a1] (hm_U D dA o b σ)) (va_Qv Q (hm_U D dA o b) (hm_A o b)) 0 0 (hm_A o b) := by
  refine hm_Mv hB (LV := [(0, .ref o), (1, .int a1)]) (by decide) rfl (Nat.le_of_ble_eq_true rfl) (fun p e s m args below meth c ls QQ C M hl hret => ?_)
  have hx := C.1.1
  have hb := C.1.2.1
  have B64 : ∀ (n64 : Nat) (v1_64 : Int32) (v2_64 : Int32) (v3_64 : Int32) (v4_64 : Int32) (σ64 : hm_S) (H : Heap) (locs : List Loc) (ls : Array Slot), hm_M D dA o b s.heap σ64 H locs → lv_has ls 6 [(0, .ref o), (1, .int v1_64), (2, .int v2_64), (3, .int v3_64), (4, .int v4_64)] → hw_dies_b64  n64 v1_64 v2_64 v3_64 v4_64 σ64 Q → W p l e (hb_R 6 139) s m args below meth c H locs 0 0 QQ (F0 m 64 ls []) := by
    intro n64
    induction n64 with
    | zero => intro v1_64 v2_64 v3_64 v4_64 σ64 H locs ls M hl hf; exact hf.elim
    | succ n64 ih64 =>
      intro v1_64 v2_64 v3_64 v4_64 σ64 H locs ls M hl hf
      refine lv_iload hx hb dX5_dies_64 (lv_at hl 4 rfl) ?_
      refine lv_aload_n hx hb dX5_dies_66 rfl (lv_at hl 0 rfl) ?_
      refine hm_get C M 6 (by decide) q2073 (v := .ref (b 6)) rfl dX5_dies_67 ?_
      refine lv_bipush (v := 104) hx hb dX5_dies_70 rfl ?_
      obtain ⟨g1, hf⟩ := hf
      refine hm_ald6 C M g1 dX5_dies_72 ?_
      obtain ⟨hft, hff⟩ := hf
      refine lv_icmp_ge (tgt := 164) hx hb dX5_dies_73 (by decide) (fun c1 => ?_) (fun c1 => ?_)
      · have hf := hft c1
        refine lv_aload_n hx hb dX5_dies_164 rfl (lv_at hl 0 rfl) ?_
        refine lv_iload_n hx hb dX5_dies_165 rfl (lv_at hl 1 rfl) ?_
        refine hm_cv C M hl.1 (As := [.int v1_64]) (rest := []) (hk_revokes l D dA o b hB v1_64 σ64 hf) (n := 1) q2408 q2410 qs83 q140 q2411 (by decide +kernel) rfl ⟨Nat.le_of_ble_eq_true rfl, Nat.le_of_ble_eq_true rfl⟩ rfl (Nat.le_of_ble_eq_true rfl) dX5_dies_166 (fun σ_166 H locs hf M => ?_)
        refine lv_iload_n hx hb dX5_dies_169 rfl (lv_at hl 3 rfl) ?_
        obtain ⟨hft, hff⟩ := hf
        refine lv_if_le (tgt := 180) hx hb dX5_dies_170 (by decide) (fun c1 => ?_) (fun c1 => ?_)
        · have hf := hft c1
          exact hret _ _ _ _ _ dX5_dies_180 M hf
        · have hf := hff c1
          refine lv_aload_n hx hb dX5_dies_173 rfl (lv_at hl 0 rfl) ?_
          refine lv_iload_n hx hb dX5_dies_174 rfl (lv_at hl 1 rfl) ?_
          refine lv_iload_n hx hb dX5_dies_175 rfl (lv_at hl 2 rfl) ?_
          refine lv_iload_n hx hb dX5_dies_176 rfl (lv_at hl 3 rfl) ?_
          refine hm_cv C M hl.1 (As := [.int v1_64, .int v2_64, .int v3_64]) (rest := []) (hk_inherits l D dA o b hB v1_64 v2_64 v3_64 σ_166 hf) (n := 3) q2412 q2414 qs84 q140 q2415 (by decide +kernel) rfl ⟨Nat.le_of_ble_eq_true rfl, Nat.le_of_ble_eq_true rfl⟩ rfl (Nat.le_of_ble_eq_true rfl) dX5_dies_177 (fun σ_177 H locs hf M => ?_)
          exact hret _ _ _ _ _ dX5_dies_180 M hf
      · have hf := hff c1
        refine lv_aload_n hx hb dX5_dies_76 rfl (lv_at hl 0 rfl) ?_
        refine hm_get C M 6 (by decide) q2073 (v := .ref (b 6)) rfl dX5_dies_77 ?_
        refine lv_sipush (v := 129) hx hb dX5_dies_80 rfl ?_
        refine lv_iload hx hb dX5_dies_83 (lv_at hl 4 rfl) ?_
        refine lv_iadd hx hb dX5_dies_85 ?_
        obtain ⟨g1, hf⟩ := hf
        refine hm_ald6 C M g1 dX5_dies_86 ?_
        refine lv_iload_n hx hb dX5_dies_87 rfl (lv_at hl 1 rfl) ?_
        obtain ⟨hft, hff⟩ := hf
        refine lv_icmp_ne (tgt := 158) hx hb dX5_dies_88 (by decide) (fun c1 => ?_) (fun c1 => ?_)
        · have hf := hft c1
          refine lv_iinc (v := v4_64 + 1) (lv' := [(4, .int (v4_64 + 1)), (0, .ref o), (1, .int v1_64), (2, .int v2_64), (3, .int v3_64)]) hx hb dX5_dies_158 hl (k := 4) rfl rfl (by decide) rfl (fun ls hl => ?_)
          refine lv_goto (tgt := 64) hx hb dX5_dies_161 (by decide) ?_
          exact ih64 v1_64 v2_64 v3_64 (v4_64 + 1) σ64 _ _ _ M (lv_sub hl [1, 2, 3, 4, 0] rfl) hf
        · have hf := hff c1
          refine lv_aload_n hx hb dX5_dies_91 rfl (lv_at hl 0 rfl) ?_
          refine lv_aload_n hx hb dX5_dies_92 rfl (lv_at hl 0 rfl) ?_
          refine hm_get C M 6 (by decide) q2073 (v := .ref (b 6)) rfl dX5_dies_93 ?_
          refine lv_sipush (v := 141) hx hb dX5_dies_96 rfl ?_
          refine lv_iload hx hb dX5_dies_99 (lv_at hl 4 rfl) ?_
          refine lv_iadd hx hb dX5_dies_101 ?_
          obtain ⟨g1, hf⟩ := hf
          refine hm_ald6 C M g1 dX5_dies_102 ?_
          refine hm_ci C M hl.1 (As := [.int (hm_gA σ64 6 (141 + v4_64))]) (rest := []) (hk_isLiving l D dA o b hB (hm_gA σ64 6 (141 + v4_64)) σ64 hf) (n := 1) q2341 q2343 qs71 q140 q2344 (by decide +kernel) rfl ⟨Nat.le_of_ble_eq_true rfl, Nat.le_of_ble_eq_true rfl⟩ rfl (Nat.le_of_ble_eq_true rfl) dX5_dies_103 (fun r_103 σ_103 H locs hf M => ?_)
          obtain ⟨hft, hff⟩ := hf
          refine lv_if_ne (tgt := 112) hx hb dX5_dies_106 (by decide) (fun c1 => ?_) (fun c1 => ?_)
          · have hf := hft c1
            refine lv_iload_n hx hb dX5_dies_112 rfl (lv_at hl 3 rfl) ?_
            refine lv_aload_n hx hb dX5_dies_113 rfl (lv_at hl 0 rfl) ?_
            refine hm_get C M 6 (by decide) q2073 (v := .ref (b 6)) rfl dX5_dies_114 ?_
            refine lv_sipush (v := 153) hx hb dX5_dies_117 rfl ?_
            refine lv_iload hx hb dX5_dies_120 (lv_at hl 4 rfl) ?_
            refine lv_iadd hx hb dX5_dies_122 ?_
            obtain ⟨g1, hf⟩ := hf
            refine hm_ald6 C M g1 dX5_dies_123 ?_
            refine hm_csi C M hl.1 (As := [.int v3_64, .int (hm_gA σ_103 6 (153 + v4_64))]) (rest := []) (hk_lesser l D dA o b hB v3_64 (hm_gA σ_103 6 (153 + v4_64)) σ_103 hf) (n := 2) q2405 q2406 q140 q2407 (by decide +kernel) rfl ⟨Nat.le_of_ble_eq_true rfl, Nat.le_of_ble_eq_true rfl⟩ rfl (Nat.le_of_ble_eq_true rfl) dX5_dies_124 (fun r_124 σ_124 H locs hf M => ?_)
            refine lv_istore (lv' := [(5, .int r_124), (0, .ref o), (1, .int v1_64), (2, .int v2_64), (3, .int v3_64), (4, .int v4_64)]) hx hb dX5_dies_127 hl (by decide) rfl (fun ls hl => ?_)
            refine lv_aload_n hx hb dX5_dies_129 rfl (lv_at hl 1 rfl) ?_
            refine hm_get C M 6 (by decide) q2073 (v := .ref (b 6)) rfl dX5_dies_130 ?_
            refine lv_bipush (v := 105) hx hb dX5_dies_133 rfl ?_
            refine lv_aload_n hx hb dX5_dies_135 rfl (lv_at hl 1 rfl) ?_
            refine hm_get C M 6 (by decide) q2073 (v := .ref (b 6)) rfl dX5_dies_136 ?_
            refine lv_sipush (v := 141) hx hb dX5_dies_139 rfl ?_
            refine lv_iload hx hb dX5_dies_142 (lv_at hl 5 rfl) ?_
            refine lv_iadd hx hb dX5_dies_144 ?_
            obtain ⟨g1, hf⟩ := hf
            refine hm_ald6 C M g1 dX5_dies_145 ?_
            refine lv_iadd hx hb dX5_dies_146 ?_
            refine lv_dup2_11 hx hb dX5_dies_147 rfl rfl ?_
            obtain ⟨g1, hf⟩ := hf
            refine hm_ald6 C M g1 dX5_dies_148 ?_
            refine lv_iload hx hb dX5_dies_149 (lv_at hl 0 rfl) ?_
            refine lv_iadd hx hb dX5_dies_151 ?_
            obtain ⟨g1, hf⟩ := hf
            refine hm_ast6 C M g1 dX5_dies_152 (fun H locs M => ?_)
            refine lv_iload_n hx hb dX5_dies_153 rfl (lv_at hl 4 rfl) ?_
            refine lv_iload hx hb dX5_dies_154 (lv_at hl 0 rfl) ?_
            refine lv_isub hx hb dX5_dies_156 ?_
            refine lv_istore_n (lv' := [(3, .int (v3_64 - r_124)), (5, .int r_124), (0, .ref o), (1, .int v1_64), (2, .int v2_64), (4, .int v4_64)]) hx hb dX5_dies_157 rfl hl (by decide) rfl (fun ls hl => ?_)
            refine lv_iinc (v := v4_64 + 1) (lv' := [(4, .int (v4_64 + 1)), (3, .int (v3_64 - r_124)), (5, .int r_124), (0, .ref o), (1, .int v1_64), (2, .int v2_64)]) hx hb dX5_dies_158 hl (k := 5) rfl rfl (by decide) rfl (fun ls hl => ?_)
            refine lv_goto (tgt := 64) hx hb dX5_dies_161 (by decide) ?_
            exact ih64 v1_64 v2_64 (v3_64 - r_124) (v4_64 + 1) (hm_sA σ_124 6 (105 + (hm_gA σ_124 6 (141 + v4_64))) ((hm_gA σ_124 6 (105 + (hm_gA σ_124 6 (141 + v4_64)))) + r_124)) _ _ _ M (lv_sub hl [3, 4, 5, 1, 0] rfl) hf
          · have hf := hff c1
            refine lv_goto (tgt := 158) hx hb dX5_dies_109 (by decide) ?_
            refine lv_iinc (v := v4_64 + 1) (lv' := [(4, .int (v4_64 + 1)), (0, .ref o), (1, .int v1_64), (2, .int v2_64), (3, .int v3_64)]) hx hb dX5_dies_158 hl (k := 4) rfl rfl (by decide) rfl (fun ls hl => ?_)
            refine lv_goto (tgt := 64) hx hb dX5_dies_161 (by decide) ?_
            exact ih64 v1_64 v2_64 v3_64 (v4_64 + 1) σ_103 _ _ _ M (lv_sub hl [1, 2, 3, 4, 0] rfl) hf
  refine lv_aload_n hx hb dX5_dies_0 rfl (lv_at hl 0 rfl) ?_
  refine hm_get C M 6 (by decide) q2073 (v := .ref (b 6)) rfl dX5_dies_1 ?_
  refine lv_bipush (v := 117) hx hb dX5_dies_4 rfl ?_
  refine lv_iload_n hx hb dX5_dies_6 rfl (lv_at hl 1 rfl) ?_
  refine lv_iadd hx hb dX5_dies_7 ?_
  obtain ⟨g1, hf⟩ := hf
  refine hm_ald6 C M g1 dX5_dies_8 ?_
  refine lv_iconst (v := 1) hx hb dX5_dies_9 rfl ?_
  refine lv_isub hx hb dX5_dies_10 ?_
  refine lv_istore_n (lv' := [(2, .int ((hm_gA σ 6 (117 + a1)) - 1)), (0, .ref o), (1, .int a1)]) hx hb dX5_dies_11 rfl hl (by decide) rfl (fun ls hl => ?_)
  refine lv_aload_n hx hb dX5_dies_12 rfl (lv_at hl 1 rfl) ?_
  refine hm_get C M 6 (by decide) q2073 (v := .ref (b 6)) rfl dX5_dies_13 ?_
  refine lv_bipush (v := 105) hx hb dX5_dies_16 rfl ?_
  refine lv_iload_n hx hb dX5_dies_18 rfl (lv_at hl 2 rfl) ?_
  refine lv_iadd hx hb dX5_dies_19 ?_
  obtain ⟨g1, hf⟩ := hf
  refine hm_ald6 C M g1 dX5_dies_20 ?_
  refine lv_istore_n (lv' := [(3, .int (hm_gA σ 6 (105 + a1))), (2, .int ((hm_gA σ 6 (117 + a1)) - 1)), (0, .ref o), (1, .int a1)]) hx hb dX5_dies_21 rfl hl (by decide) rfl (fun ls hl => ?_)
  refine lv_aload_n hx hb dX5_dies_22 rfl (lv_at hl 2 rfl) ?_
  refine hm_get C M 6 (by decide) q2073 (v := .ref (b 6)) rfl dX5_dies_23 ?_
  refine lv_bipush (v := 101) hx hb dX5_dies_26 rfl ?_
  refine lv_dup2_11 hx hb dX5_dies_28 rfl rfl ?_
  obtain ⟨g1, hf⟩ := hf
  refine hm_ald6 C M g1 dX5_dies_29 ?_
  refine lv_iconst (v := 1) hx hb dX5_dies_30 rfl ?_
  refine lv_iload_n hx hb dX5_dies_31 rfl (lv_at hl 3 rfl) ?_
  refine lv_ishl hx hb dX5_dies_32 ?_
  refine lv_ior hx hb dX5_dies_33 ?_
  obtain ⟨g1, hf⟩ := hf
  refine hm_ast6 C M g1 dX5_dies_34 (fun H locs M => ?_)
  refine lv_aload_n hx hb dX5_dies_35 rfl (lv_at hl 2 rfl) ?_
  refine hm_get C M 6 (by decide) q2073 (v := .ref (b 6)) rfl dX5_dies_36 ?_
  refine lv_bipush (v := 103) hx hb dX5_dies_39 rfl ?_
  refine lv_dup2_11 hx hb dX5_dies_41 rfl rfl ?_
  obtain ⟨g1, hf⟩ := hf
  refine hm_ald6 C M g1 dX5_dies_42 ?_
  refine lv_iconst (v := 1) hx hb dX5_dies_43 rfl ?_
  refine lv_iadd hx hb dX5_dies_44 ?_
  obtain ⟨g1, hf⟩ := hf
  refine hm_ast6 C M g1 dX5_dies_45 (fun H locs M => ?_)
  refine lv_aload_n hx hb dX5_dies_46 rfl (lv_at hl 2 rfl) ?_
  refine hm_get C M 6 (by decide) q2073 (v := .ref (b 6)) rfl dX5_dies_47 ?_
  refine lv_bipush (v := 105) hx hb dX5_dies_50 rfl ?_
  refine lv_iload_n hx hb dX5_dies_52 rfl (lv_at hl 3 rfl) ?_
  refine lv_iadd hx hb dX5_dies_53 ?_
  refine lv_iconst (v := 0) hx hb dX5_dies_54 rfl ?_
  obtain ⟨g1, hf⟩ := hf
  refine hm_ast6 C M g1 dX5_dies_55 (fun H locs M => ?_)
  refine lv_aload_n hx hb dX5_dies_56 rfl (lv_at hl 2 rfl) ?_
  refine lv_iload_n hx hb dX5_dies_57 rfl (lv_at hl 3 rfl) ?_
  refine hm_cv C M hl.1 (As := [.int a1]) (rest := []) (hk_parts0 l D dA o b hB a1 (hm_sA (hm_sA (hm_sA σ 6 101 ((hm_gA σ 6 101) ||| ((1 : Int32) <<< (a1 &&& 31)))) 6 103 ((hm_gA (hm_sA σ 6 101 ((hm_gA σ 6 101) ||| ((1 : Int32) <<< (a1 &&& 31)))) 6 103) + 1)) 6 (105 + a1) 0) hf) (n := 1) q2401 q2403 qs82 q140 q2404 (by decide +kernel) rfl ⟨Nat.le_of_ble_eq_true rfl, Nat.le_of_ble_eq_true rfl⟩ rfl (Nat.le_of_ble_eq_true rfl) dX5_dies_58 (fun σ_58 H locs hf M => ?_)
  refine lv_iconst (v := 0) hx hb dX5_dies_61 rfl ?_
  refine lv_istore (lv' := [(4, .int 0), (3, .int (hm_gA σ 6 (105 + a1))), (2, .int ((hm_gA σ 6 (117 + a1)) - 1)), (0, .ref o), (1, .int a1)]) hx hb dX5_dies_62 hl (by decide) rfl (fun ls hl => ?_)
  obtain ⟨nn, hf⟩ := hf
  exact B64 nn a1 ((hm_gA σ 6 (117 + a1)) - 1) (hm_gA σ 6 (105 + a1)) 0 σ_58 _ _ _ M (lv_sub hl [3, 4, 2, 1, 0] rfl) hf
def hw_stores_b47 : Nat → Int32 → hm_S → (hm_S → Prop) → Prop
  | 0, _, _, _ => False
  | n47 + 1, v1_47, σ47, Q => (65 ≤ v1_47 → Q (hm_sI σ47 26 ((hm_gI σ47 26) + 1))) ∧ (¬ 65 ≤ v1_47 → vp_in (100 + v1_47) 346 ∧ (vp_in ((65 * (hm_gI σ47 26)) + v1_47) 520 ∧ (hw_stores_b47  n47 (v1_47 + 1) (hm_sA σ47 24 ((65 * (hm_gI σ47 26)) + v1_47) (hm_gA σ47 6 (100 + v1_47))) Q)))
def hw_stores_b11 : Nat → Int32 → hm_S → (hm_S → Prop) → Prop
  | 0, _, _, _ => False
  | n11 + 1, v1_11, σ11, Q => (455 ≤ v1_11 → ∃ n, hw_stores_b47  n 0 (hm_sI σ11 26 7) Q) ∧ (¬ 455 ≤ v1_11 → vp_in (v1_11 + 65) 520 ∧ (vp_in v1_11 520 ∧ (hw_stores_b11  n11 (v1_11 + 1) (hm_sA σ11 24 v1_11 (hm_gA σ11 24 (v1_11 + 65))) Q)))
def hw_stores  (σ : hm_S) (Q : hm_S → Prop) : Prop := (¬ (hm_gI σ 26) = 8 → ∃ n, hw_stores_b47  n 0 σ Q) ∧ ((hm_gI σ 26) = 8 → ∃ n, hw_stores_b11  n 0 σ Q)
set_option maxHeartbeats 4000000 in
set_option maxRecDepth 100000 in
theorem hk_stores (l : Launch) (D : va_G) (dA : Nat → ClassId) (o : Nat) (b : Nat → Nat) (hB : hm_D dA o b)  (σ : hm_S) {Q : hm_S → Prop} (hf : hw_stores  σ Q) : Met l yX5_stores (ws_ yX5_stores cX5_stores 2 none) (hb_R 0 0) (va_Pc [.ref o] (hm_U D dA o b σ)) (va_Qv Q (hm_U D dA o b) (hm_A o b)) 0 0 (hm_A o b) := by
  refine hm_Mv hB (LV := [(0, .ref o)]) (by decide) rfl (Nat.le_of_ble_eq_true rfl) (fun p e s m args below meth c ls QQ C M hl hret => ?_)
  have hx := C.1.1
  have hb := C.1.2.1
  have B47 : ∀ (n47 : Nat) (v1_47 : Int32) (σ47 : hm_S) (H : Heap) (locs : List Loc) (ls : Array Slot), hm_M D dA o b s.heap σ47 H locs → lv_has ls 2 [(0, .ref o), (1, .int v1_47)] → hw_stores_b47  n47 v1_47 σ47 Q → W p l e (hb_R 0 0) s m args below meth c H locs 0 0 QQ (F0 m 47 ls []) := by
    intro n47
    induction n47 with
    | zero => intro v1_47 σ47 H locs ls M hl hf; exact hf.elim
    | succ n47 ih47 =>
      intro v1_47 σ47 H locs ls M hl hf
      refine lv_iload_n hx hb dX5_stores_47 rfl (lv_at hl 1 rfl) ?_
      refine lv_bipush (v := 65) hx hb dX5_stores_48 rfl ?_
      obtain ⟨hft, hff⟩ := hf
      refine lv_icmp_ge (tgt := 82) hx hb dX5_stores_50 (by decide) (fun c1 => ?_) (fun c1 => ?_)
      · have hf := hft c1
        refine lv_aload_n hx hb dX5_stores_82 rfl (lv_at hl 0 rfl) ?_
        refine lv_dup hx hb dX5_stores_83 rfl ?_
        refine hm_get C M 26 (by decide) q2093 (v := .int (hm_gI σ47 26)) rfl dX5_stores_84 ?_
        refine lv_iconst (v := 1) hx hb dX5_stores_87 rfl ?_
        refine lv_iadd hx hb dX5_stores_88 ?_
        refine hm_put26 C M q2093 dX5_stores_89 (fun H locs M => ?_)
        exact hret _ _ _ _ _ dX5_stores_92 M hf
      · have hf := hff c1
        refine lv_aload_n hx hb dX5_stores_53 rfl (lv_at hl 0 rfl) ?_
        refine hm_get C M 24 (by decide) q2091 (v := .ref (b 24)) rfl dX5_stores_54 ?_
        refine lv_bipush (v := 65) hx hb dX5_stores_57 rfl ?_
        refine lv_aload_n hx hb dX5_stores_59 rfl (lv_at hl 0 rfl) ?_
        refine hm_get C M 26 (by decide) q2093 (v := .int (hm_gI σ47 26)) rfl dX5_stores_60 ?_
        refine lv_imul hx hb dX5_stores_63 ?_
        refine lv_iload_n hx hb dX5_stores_64 rfl (lv_at hl 1 rfl) ?_
        refine lv_iadd hx hb dX5_stores_65 ?_
        refine lv_aload_n hx hb dX5_stores_66 rfl (lv_at hl 0 rfl) ?_
        refine hm_get C M 6 (by decide) q2073 (v := .ref (b 6)) rfl dX5_stores_67 ?_
        refine lv_bipush (v := 100) hx hb dX5_stores_70 rfl ?_
        refine lv_iload_n hx hb dX5_stores_72 rfl (lv_at hl 1 rfl) ?_
        refine lv_iadd hx hb dX5_stores_73 ?_
        obtain ⟨g1, hf⟩ := hf
        refine hm_ald6 C M g1 dX5_stores_74 ?_
        obtain ⟨g1, hf⟩ := hf
        refine hm_ast24 C M g1 dX5_stores_75 (fun H locs M => ?_)
        refine lv_iinc (v := v1_47 + 1) (lv' := [(1, .int (v1_47 + 1)), (0, .ref o)]) hx hb dX5_stores_76 hl (k := 1) rfl rfl (by decide) rfl (fun ls hl => ?_)
        refine lv_goto (tgt := 47) hx hb dX5_stores_79 (by decide) ?_
        exact ih47 (v1_47 + 1) (hm_sA σ47 24 ((65 * (hm_gI σ47 26)) + v1_47) (hm_gA σ47 6 (100 + v1_47))) _ _ _ M (lv_sub hl [1, 0] rfl) hf
  have B11 : ∀ (n11 : Nat) (v1_11 : Int32) (σ11 : hm_S) (H : Heap) (locs : List Loc) (ls : Array Slot), hm_M D dA o b s.heap σ11 H locs → lv_has ls 2 [(0, .ref o), (1, .int v1_11)] → hw_stores_b11  n11 v1_11 σ11 Q → W p l e (hb_R 0 0) s m args below meth c H locs 0 0 QQ (F0 m 11 ls []) := by
    intro n11
    induction n11 with
    | zero => intro v1_11 σ11 H locs ls M hl hf; exact hf.elim
    | succ n11 ih11 =>
      intro v1_11 σ11 H locs ls M hl hf
      refine lv_iload_n hx hb dX5_stores_11 rfl (lv_at hl 1 rfl) ?_
      refine lv_sipush (v := 455) hx hb dX5_stores_12 rfl ?_
      obtain ⟨hft, hff⟩ := hf
      refine lv_icmp_ge (tgt := 39) hx hb dX5_stores_15 (by decide) (fun c1 => ?_) (fun c1 => ?_)
      · have hf := hft c1
        refine lv_aload_n hx hb dX5_stores_39 rfl (lv_at hl 0 rfl) ?_
        refine lv_bipush (v := 7) hx hb dX5_stores_40 rfl ?_
        refine hm_put26 C M q2093 dX5_stores_42 (fun H locs M => ?_)
        refine lv_iconst (v := 0) hx hb dX5_stores_45 rfl ?_
        refine lv_istore_n (lv' := [(1, .int 0), (0, .ref o)]) hx hb dX5_stores_46 rfl hl (by decide) rfl (fun ls hl => ?_)
        obtain ⟨nn, hf⟩ := hf
        exact B47 nn 0 (hm_sI σ11 26 7) _ _ _ M (lv_sub hl [1, 0] rfl) hf
      · have hf := hff c1
        refine lv_aload_n hx hb dX5_stores_18 rfl (lv_at hl 0 rfl) ?_
        refine hm_get C M 24 (by decide) q2091 (v := .ref (b 24)) rfl dX5_stores_19 ?_
        refine lv_iload_n hx hb dX5_stores_22 rfl (lv_at hl 1 rfl) ?_
        refine lv_aload_n hx hb dX5_stores_23 rfl (lv_at hl 0 rfl) ?_
        refine hm_get C M 24 (by decide) q2091 (v := .ref (b 24)) rfl dX5_stores_24 ?_
        refine lv_iload_n hx hb dX5_stores_27 rfl (lv_at hl 1 rfl) ?_
        refine lv_bipush (v := 65) hx hb dX5_stores_28 rfl ?_
        refine lv_iadd hx hb dX5_stores_30 ?_
        obtain ⟨g1, hf⟩ := hf
        refine hm_ald24 C M g1 dX5_stores_31 ?_
        obtain ⟨g1, hf⟩ := hf
        refine hm_ast24 C M g1 dX5_stores_32 (fun H locs M => ?_)
        refine lv_iinc (v := v1_11 + 1) (lv' := [(1, .int (v1_11 + 1)), (0, .ref o)]) hx hb dX5_stores_33 hl (k := 1) rfl rfl (by decide) rfl (fun ls hl => ?_)
        refine lv_goto (tgt := 11) hx hb dX5_stores_36 (by decide) ?_
        exact ih11 (v1_11 + 1) (hm_sA σ11 24 v1_11 (hm_gA σ11 24 (v1_11 + 65))) _ _ _ M (lv_sub hl [1, 0] rfl) hf
  refine lv_aload_n hx hb dX5_stores_0 rfl (lv_at hl 0 rfl) ?_
  refine hm_get C M 26 (by decide) q2093 (v := .int (hm_gI σ 26)) rfl dX5_stores_1 ?_
  refine lv_bipush (v := 8) hx hb dX5_stores_4 rfl ?_
  obtain ⟨hft, hff⟩ := hf
  refine lv_icmp_ne (tgt := 45) hx hb dX5_stores_6 (by decide) (fun c1 => ?_) (fun c1 => ?_)
  · have hf := hft c1
    refine lv_iconst (v := 0) hx hb dX5_stores_45 rfl ?_
    refine lv_istore_n (lv' := [(1, .int 0), (0, .ref o)]) hx hb dX5_stores_46 rfl hl (by decide) rfl (fun ls hl => ?_)
    obtain ⟨nn, hf⟩ := hf
    exact B47 nn 0 σ _ _ _ M (lv_sub hl [1, 0] rfl) hf
  · have hf := hff c1
    refine lv_iconst (v := 0) hx hb dX5_stores_9 rfl ?_
    refine lv_istore_n (lv' := [(1, .int 0), (0, .ref o)]) hx hb dX5_stores_10 rfl hl (by decide) rfl (fun ls hl => ?_)
    obtain ⟨nn, hf⟩ := hf
    exact B11 nn 0 σ _ _ _ M (lv_sub hl [1, 0] rfl) hf
def hw_die (a1 : Int32) (σ : hm_S) (Q : Int32 → hm_S → Prop) : Prop := hw_isPerson a1 (hm_sI σ 0 0) (fun r_7 σ_7 => ((¬ r_7 = 0 → hw_isLiving a1 σ_7 (fun r_17 σ_17 => ((¬ r_17 = 0 → hw_stores  σ_17 (fun σ_26 => (hw_dies a1 σ_26 (fun σ_31 => (Q 0 σ_31))))) ∧ (r_17 = 0 → Q 1 σ_17)))) ∧ (r_7 = 0 → Q (-1) σ_7)))
set_option maxHeartbeats 4000000 in
set_option maxRecDepth 100000 in
theorem hk_die (l : Launch) (D : va_G) (dA : Nat → ClassId) (o : Nat) (b : Nat → Nat) (hB : hm_D dA o b) (a1 : Int32) (σ : hm_S) {Q : Int32 → hm_S → Prop} (hf : hw_die a1 σ Q) : Met l yX5_die (ws_ yX5_die cX5_die 2 (some .int)) (hb_R 7 164) (va_Pc [.ref o, .int a1] (hm_U D dA o b σ)) (va_Qi Q (hm_U D dA o b) (hm_A o b)) 0 0 (hm_A o b) := by
  refine hm_Mi hB (LV := [(0, .ref o), (1, .int a1)]) (by decide) rfl (Nat.le_of_ble_eq_true rfl) (fun p e s m args below meth c ls QQ C M hl hret => ?_)
  have hx := C.1.1
  have hb := C.1.2.1
  refine lv_aload_n hx hb dX5_die_0 rfl (lv_at hl 0 rfl) ?_
  refine lv_iconst (v := 0) hx hb dX5_die_1 rfl ?_
  refine hm_put0 C M q2067 dX5_die_2 (fun H locs M => ?_)
  refine lv_aload_n hx hb dX5_die_5 rfl (lv_at hl 0 rfl) ?_
  refine lv_iload_n hx hb dX5_die_6 rfl (lv_at hl 1 rfl) ?_
  refine hm_ci C M hl.1 (As := [.int a1]) (rest := []) (hk_isPerson l D dA o b hB a1 (hm_sI σ 0 0) hf) (n := 1) q2333 q2335 qs69 q140 q2336 (by decide +kernel) rfl ⟨Nat.le_of_ble_eq_true rfl, Nat.le_of_ble_eq_true rfl⟩ rfl (Nat.le_of_ble_eq_true rfl) dX5_die_7 (fun r_7 σ_7 H locs hf M => ?_)
  obtain ⟨hft, hff⟩ := hf
  refine lv_if_ne (tgt := 15) hx hb dX5_die_10 (by decide) (fun c1 => ?_) (fun c1 => ?_)
  · have hf := hft c1
    refine lv_aload_n hx hb dX5_die_15 rfl (lv_at hl 0 rfl) ?_
    refine lv_iload_n hx hb dX5_die_16 rfl (lv_at hl 1 rfl) ?_
    refine hm_ci C M hl.1 (As := [.int a1]) (rest := []) (hk_isLiving l D dA o b hB a1 σ_7 hf) (n := 1) q2341 q2343 qs71 q140 q2344 (by decide +kernel) rfl ⟨Nat.le_of_ble_eq_true rfl, Nat.le_of_ble_eq_true rfl⟩ rfl (Nat.le_of_ble_eq_true rfl) dX5_die_17 (fun r_17 σ_17 H locs hf M => ?_)
    obtain ⟨hft, hff⟩ := hf
    refine lv_if_ne (tgt := 25) hx hb dX5_die_20 (by decide) (fun c1 => ?_) (fun c1 => ?_)
    · have hf := hft c1
      refine lv_aload_n hx hb dX5_die_25 rfl (lv_at hl 0 rfl) ?_
      refine hm_cv C M hl.1 (As := []) (rest := []) (hk_stores l D dA o b hB  σ_17 hf) (n := 0) q2393 q2395 qs80 q140 q2396 (by decide +kernel) rfl ⟨Nat.le_of_ble_eq_true rfl, Nat.le_of_ble_eq_true rfl⟩ rfl (Nat.le_of_ble_eq_true rfl) dX5_die_26 (fun σ_26 H locs hf M => ?_)
      refine lv_aload_n hx hb dX5_die_29 rfl (lv_at hl 0 rfl) ?_
      refine lv_iload_n hx hb dX5_die_30 rfl (lv_at hl 1 rfl) ?_
      refine hm_cv C M hl.1 (As := [.int a1]) (rest := []) (hk_dies l D dA o b hB a1 σ_26 hf) (n := 1) q2397 q2399 qs81 q140 q2400 (by decide +kernel) rfl ⟨Nat.le_of_ble_eq_true rfl, Nat.le_of_ble_eq_true rfl⟩ rfl (Nat.le_of_ble_eq_true rfl) dX5_die_31 (fun σ_31 H locs hf M => ?_)
      refine lv_iconst (v := 0) hx hb dX5_die_34 rfl ?_
      exact hret _ _ _ _ _ _ dX5_die_35 M hf
    · have hf := hff c1
      refine lv_iconst (v := 1) hx hb dX5_die_23 rfl ?_
      exact hret _ _ _ _ _ _ dX5_die_24 M hf
  · have hf := hff c1
    refine lv_iconst (v := (-1)) hx hb dX5_die_13 rfl ?_
    exact hret _ _ _ _ _ _ dX5_die_14 M hf
def hw_areTwo (a1 : Int32) (a2 : Int32) (σ : hm_S) (Q : Int32 → hm_S → Prop) : Prop := hw_isPerson a1 σ (fun r_2 σ_2 => ((r_2 = 0 → Q 0 σ_2) ∧ (¬ r_2 = 0 → hw_isPerson a2 σ_2 (fun r_10 σ_10 => ((r_10 = 0 → Q 0 σ_10) ∧ (¬ r_10 = 0 → (a1 = a2 → Q 0 σ_10) ∧ (¬ a1 = a2 → Q 1 σ_10)))))))
set_option maxHeartbeats 4000000 in
set_option maxRecDepth 100000 in
theorem hk_areTwo (l : Launch) (D : va_G) (dA : Nat → ClassId) (o : Nat) (b : Nat → Nat) (hB : hm_D dA o b) (a1 : Int32) (a2 : Int32) (σ : hm_S) {Q : Int32 → hm_S → Prop} (hf : hw_areTwo a1 a2 σ Q) : Met l yX5_areTwo (ws_ yX5_areTwo cX5_areTwo 3 (some .boolean)) (hb_R 2 43) (va_Pc [.ref o, .int a1, .int a2] (hm_U D dA o b σ)) (va_Qi Q (hm_U D dA o b) (hm_A o b)) 0 0 (hm_A o b) := by
  refine hm_Mz hB (LV := [(0, .ref o), (1, .int a1), (2, .int a2)]) (by decide) rfl (Nat.le_of_ble_eq_true rfl) (fun p e s m args below meth c ls QQ C M hl hret => ?_)
  have hx := C.1.1
  have hb := C.1.2.1
  refine lv_aload_n hx hb dX5_areTwo_0 rfl (lv_at hl 0 rfl) ?_
  refine lv_iload_n hx hb dX5_areTwo_1 rfl (lv_at hl 1 rfl) ?_
  refine hm_ci C M hl.1 (As := [.int a1]) (rest := []) (hk_isPerson l D dA o b hB a1 σ hf) (n := 1) q2333 q2335 qs69 q140 q2336 (by decide +kernel) rfl ⟨Nat.le_of_ble_eq_true rfl, Nat.le_of_ble_eq_true rfl⟩ rfl (Nat.le_of_ble_eq_true rfl) dX5_areTwo_2 (fun r_2 σ_2 H locs hf M => ?_)
  obtain ⟨hft, hff⟩ := hf
  refine lv_if_eq (tgt := 25) hx hb dX5_areTwo_5 (by decide) (fun c1 => ?_) (fun c1 => ?_)
  · have hf := hft c1
    refine lv_iconst (v := 0) hx hb dX5_areTwo_25 rfl ?_
    exact hret _ _ _ _ _ _ dX5_areTwo_26 M hb_B0 hf
  · have hf := hff c1
    refine lv_aload_n hx hb dX5_areTwo_8 rfl (lv_at hl 0 rfl) ?_
    refine lv_iload_n hx hb dX5_areTwo_9 rfl (lv_at hl 2 rfl) ?_
    refine hm_ci C M hl.1 (As := [.int a2]) (rest := []) (hk_isPerson l D dA o b hB a2 σ_2 hf) (n := 1) q2333 q2335 qs69 q140 q2336 (by decide +kernel) rfl ⟨Nat.le_of_ble_eq_true rfl, Nat.le_of_ble_eq_true rfl⟩ rfl (Nat.le_of_ble_eq_true rfl) dX5_areTwo_10 (fun r_10 σ_10 H locs hf M => ?_)
    obtain ⟨hft, hff⟩ := hf
    refine lv_if_eq (tgt := 25) hx hb dX5_areTwo_13 (by decide) (fun c1 => ?_) (fun c1 => ?_)
    · have hf := hft c1
      refine lv_iconst (v := 0) hx hb dX5_areTwo_25 rfl ?_
      exact hret _ _ _ _ _ _ dX5_areTwo_26 M hb_B0 hf
    · have hf := hff c1
      refine lv_iload_n hx hb dX5_areTwo_16 rfl (lv_at hl 1 rfl) ?_
      refine lv_iload_n hx hb dX5_areTwo_17 rfl (lv_at hl 2 rfl) ?_
      obtain ⟨hft, hff⟩ := hf
      refine lv_icmp_eq (tgt := 25) hx hb dX5_areTwo_18 (by decide) (fun c1 => ?_) (fun c1 => ?_)
      · have hf := hft c1
        refine lv_iconst (v := 0) hx hb dX5_areTwo_25 rfl ?_
        exact hret _ _ _ _ _ _ dX5_areTwo_26 M hb_B0 hf
      · have hf := hff c1
        refine lv_iconst (v := 1) hx hb dX5_areTwo_21 rfl ?_
        refine lv_goto (tgt := 26) hx hb dX5_areTwo_22 (by decide) ?_
        exact hret _ _ _ _ _ _ dX5_areTwo_26 M hb_B1 hf
def hw_weds (a1 : Int32) (a2 : Int32) (σ : hm_S) (Q : hm_S → Prop) : Prop := vp_in (117 + a1) 346 ∧ (vp_in (117 + a2) 346 ∧ (Q (hm_sA (hm_sA σ 6 (117 + a1) (a2 + 1)) 6 (117 + a2) (a1 + 1))))
set_option maxHeartbeats 4000000 in
set_option maxRecDepth 100000 in
theorem hk_weds (l : Launch) (D : va_G) (dA : Nat → ClassId) (o : Nat) (b : Nat → Nat) (hB : hm_D dA o b) (a1 : Int32) (a2 : Int32) (σ : hm_S) {Q : hm_S → Prop} (hf : hw_weds a1 a2 σ Q) : Met l yX5_weds (ws_ yX5_weds cX5_weds 3 none) (hb_R 0 0) (va_Pc [.ref o, .int a1, .int a2] (hm_U D dA o b σ)) (va_Qv Q (hm_U D dA o b) (hm_A o b)) 0 0 (hm_A o b) := by
  refine hm_Mv hB (LV := [(0, .ref o), (1, .int a1), (2, .int a2)]) (by decide) rfl (Nat.le_of_ble_eq_true rfl) (fun p e s m args below meth c ls QQ C M hl hret => ?_)
  have hx := C.1.1
  have hb := C.1.2.1
  refine lv_aload_n hx hb dX5_weds_0 rfl (lv_at hl 0 rfl) ?_
  refine hm_get C M 6 (by decide) q2073 (v := .ref (b 6)) rfl dX5_weds_1 ?_
  refine lv_bipush (v := 117) hx hb dX5_weds_4 rfl ?_
  refine lv_iload_n hx hb dX5_weds_6 rfl (lv_at hl 1 rfl) ?_
  refine lv_iadd hx hb dX5_weds_7 ?_
  refine lv_iload_n hx hb dX5_weds_8 rfl (lv_at hl 2 rfl) ?_
  refine lv_iconst (v := 1) hx hb dX5_weds_9 rfl ?_
  refine lv_iadd hx hb dX5_weds_10 ?_
  obtain ⟨g1, hf⟩ := hf
  refine hm_ast6 C M g1 dX5_weds_11 (fun H locs M => ?_)
  refine lv_aload_n hx hb dX5_weds_12 rfl (lv_at hl 0 rfl) ?_
  refine hm_get C M 6 (by decide) q2073 (v := .ref (b 6)) rfl dX5_weds_13 ?_
  refine lv_bipush (v := 117) hx hb dX5_weds_16 rfl ?_
  refine lv_iload_n hx hb dX5_weds_18 rfl (lv_at hl 2 rfl) ?_
  refine lv_iadd hx hb dX5_weds_19 ?_
  refine lv_iload_n hx hb dX5_weds_20 rfl (lv_at hl 1 rfl) ?_
  refine lv_iconst (v := 1) hx hb dX5_weds_21 rfl ?_
  refine lv_iadd hx hb dX5_weds_22 ?_
  obtain ⟨g1, hf⟩ := hf
  refine hm_ast6 C M g1 dX5_weds_23 (fun H locs M => ?_)
  exact hret _ _ _ _ _ dX5_weds_24 M hf
def hw_whyWed (a1 : Int32) (a2 : Int32) (σ : hm_S) (Q : Int32 → hm_S → Prop) : Prop := hw_isLiving a1 σ (fun r_2 σ_2 => ((r_2 = 0 → Q 1 σ_2) ∧ (¬ r_2 = 0 → hw_isLiving a2 σ_2 (fun r_10 σ_10 => ((¬ r_10 = 0 → vp_in (117 + a1) 346 ∧ ((0 < (hm_gA σ_10 6 (117 + a1)) → Q 2 σ_10) ∧ (¬ 0 < (hm_gA σ_10 6 (117 + a1)) → vp_in (117 + a2) 346 ∧ (((hm_gA σ_10 6 (117 + a2)) ≤ 0 → hw_degreeOf a1 a2 σ_10 (fun r_47 σ_47 => (hw_isIn r_47 0 2 σ_47 (fun r_52 σ_52 => ((r_52 = 0 → Q 0 σ_52) ∧ (¬ r_52 = 0 → Q 3 σ_52)))))) ∧ (¬ (hm_gA σ_10 6 (117 + a2)) ≤ 0 → Q 2 σ_10))))) ∧ (r_10 = 0 → Q 1 σ_10))))))
set_option maxHeartbeats 4000000 in
set_option maxRecDepth 100000 in
theorem hk_whyWed (l : Launch) (D : va_G) (dA : Nat → ClassId) (o : Nat) (b : Nat → Nat) (hB : hm_D dA o b) (a1 : Int32) (a2 : Int32) (σ : hm_S) {Q : Int32 → hm_S → Prop} (hf : hw_whyWed a1 a2 σ Q) : Met l yX5_whyWed (ws_ yX5_whyWed cX5_whyWed 3 (some .int)) (hb_R 3 71) (va_Pc [.ref o, .int a1, .int a2] (hm_U D dA o b σ)) (va_Qi Q (hm_U D dA o b) (hm_A o b)) 0 0 (hm_A o b) := by
  refine hm_Mi hB (LV := [(0, .ref o), (1, .int a1), (2, .int a2)]) (by decide) rfl (Nat.le_of_ble_eq_true rfl) (fun p e s m args below meth c ls QQ C M hl hret => ?_)
  have hx := C.1.1
  have hb := C.1.2.1
  refine lv_aload_n hx hb dX5_whyWed_0 rfl (lv_at hl 0 rfl) ?_
  refine lv_iload_n hx hb dX5_whyWed_1 rfl (lv_at hl 1 rfl) ?_
  refine hm_ci C M hl.1 (As := [.int a1]) (rest := []) (hk_isLiving l D dA o b hB a1 σ hf) (n := 1) q2341 q2343 qs71 q140 q2344 (by decide +kernel) rfl ⟨Nat.le_of_ble_eq_true rfl, Nat.le_of_ble_eq_true rfl⟩ rfl (Nat.le_of_ble_eq_true rfl) dX5_whyWed_2 (fun r_2 σ_2 H locs hf M => ?_)
  obtain ⟨hft, hff⟩ := hf
  refine lv_if_eq (tgt := 16) hx hb dX5_whyWed_5 (by decide) (fun c1 => ?_) (fun c1 => ?_)
  · have hf := hft c1
    refine lv_iconst (v := 1) hx hb dX5_whyWed_16 rfl ?_
    exact hret _ _ _ _ _ _ dX5_whyWed_17 M hf
  · have hf := hff c1
    refine lv_aload_n hx hb dX5_whyWed_8 rfl (lv_at hl 0 rfl) ?_
    refine lv_iload_n hx hb dX5_whyWed_9 rfl (lv_at hl 2 rfl) ?_
    refine hm_ci C M hl.1 (As := [.int a2]) (rest := []) (hk_isLiving l D dA o b hB a2 σ_2 hf) (n := 1) q2341 q2343 qs71 q140 q2344 (by decide +kernel) rfl ⟨Nat.le_of_ble_eq_true rfl, Nat.le_of_ble_eq_true rfl⟩ rfl (Nat.le_of_ble_eq_true rfl) dX5_whyWed_10 (fun r_10 σ_10 H locs hf M => ?_)
    obtain ⟨hft, hff⟩ := hf
    refine lv_if_ne (tgt := 18) hx hb dX5_whyWed_13 (by decide) (fun c1 => ?_) (fun c1 => ?_)
    · have hf := hft c1
      refine lv_aload_n hx hb dX5_whyWed_18 rfl (lv_at hl 0 rfl) ?_
      refine hm_get C M 6 (by decide) q2073 (v := .ref (b 6)) rfl dX5_whyWed_19 ?_
      refine lv_bipush (v := 117) hx hb dX5_whyWed_22 rfl ?_
      refine lv_iload_n hx hb dX5_whyWed_24 rfl (lv_at hl 1 rfl) ?_
      refine lv_iadd hx hb dX5_whyWed_25 ?_
      obtain ⟨g1, hf⟩ := hf
      refine hm_ald6 C M g1 dX5_whyWed_26 ?_
      obtain ⟨hft, hff⟩ := hf
      refine lv_if_gt (tgt := 42) hx hb dX5_whyWed_27 (by decide) (fun c1 => ?_) (fun c1 => ?_)
      · have hf := hft c1
        refine lv_iconst (v := 2) hx hb dX5_whyWed_42 rfl ?_
        exact hret _ _ _ _ _ _ dX5_whyWed_43 M hf
      · have hf := hff c1
        refine lv_aload_n hx hb dX5_whyWed_30 rfl (lv_at hl 0 rfl) ?_
        refine hm_get C M 6 (by decide) q2073 (v := .ref (b 6)) rfl dX5_whyWed_31 ?_
        refine lv_bipush (v := 117) hx hb dX5_whyWed_34 rfl ?_
        refine lv_iload_n hx hb dX5_whyWed_36 rfl (lv_at hl 2 rfl) ?_
        refine lv_iadd hx hb dX5_whyWed_37 ?_
        obtain ⟨g1, hf⟩ := hf
        refine hm_ald6 C M g1 dX5_whyWed_38 ?_
        obtain ⟨hft, hff⟩ := hf
        refine lv_if_le (tgt := 44) hx hb dX5_whyWed_39 (by decide) (fun c1 => ?_) (fun c1 => ?_)
        · have hf := hft c1
          refine lv_aload_n hx hb dX5_whyWed_44 rfl (lv_at hl 0 rfl) ?_
          refine lv_iload_n hx hb dX5_whyWed_45 rfl (lv_at hl 1 rfl) ?_
          refine lv_iload_n hx hb dX5_whyWed_46 rfl (lv_at hl 2 rfl) ?_
          refine hm_ci C M hl.1 (As := [.int a1, .int a2]) (rest := []) (hk_degreeOf l D dA o b hB a1 a2 σ_10 hf) (n := 2) q2373 q2375 qs77 q140 q2376 (by decide +kernel) rfl ⟨Nat.le_of_ble_eq_true rfl, Nat.le_of_ble_eq_true rfl⟩ rfl (Nat.le_of_ble_eq_true rfl) dX5_whyWed_47 (fun r_47 σ_47 H locs hf M => ?_)
          refine lv_iconst (v := 0) hx hb dX5_whyWed_50 rfl ?_
          refine lv_iconst (v := 2) hx hb dX5_whyWed_51 rfl ?_
          refine hm_csi C M hl.1 (As := [.int r_47, .int 0, .int 2]) (rest := []) (hk_isIn l D dA o b hB r_47 0 2 σ_47 hf) (n := 3) q2280 q2281 q140 q2282 (by decide +kernel) rfl ⟨Nat.le_of_ble_eq_true rfl, Nat.le_of_ble_eq_true rfl⟩ rfl (Nat.le_of_ble_eq_true rfl) dX5_whyWed_52 (fun r_52 σ_52 H locs hf M => ?_)
          obtain ⟨hft, hff⟩ := hf
          refine lv_if_eq (tgt := 62) hx hb dX5_whyWed_55 (by decide) (fun c1 => ?_) (fun c1 => ?_)
          · have hf := hft c1
            refine lv_iconst (v := 0) hx hb dX5_whyWed_62 rfl ?_
            exact hret _ _ _ _ _ _ dX5_whyWed_63 M hf
          · have hf := hff c1
            refine lv_iconst (v := 3) hx hb dX5_whyWed_58 rfl ?_
            refine lv_goto (tgt := 63) hx hb dX5_whyWed_59 (by decide) ?_
            exact hret _ _ _ _ _ _ dX5_whyWed_63 M hf
        · have hf := hff c1
          refine lv_iconst (v := 2) hx hb dX5_whyWed_42 rfl ?_
          exact hret _ _ _ _ _ _ dX5_whyWed_43 M hf
    · have hf := hff c1
      refine lv_iconst (v := 1) hx hb dX5_whyWed_16 rfl ?_
      exact hret _ _ _ _ _ _ dX5_whyWed_17 M hf
def hw_wed (a1 : Int32) (a2 : Int32) (σ : hm_S) (Q : Int32 → hm_S → Prop) : Prop := hw_areTwo a1 a2 (hm_sI σ 0 0) (fun r_8 σ_8 => ((¬ r_8 = 0 → hw_whyWed a1 a2 σ_8 (fun r_19 σ_19 => ((r_19 ≤ 0 → hw_stores  σ_19 (fun σ_30 => (hw_weds a1 a2 σ_30 (fun σ_36 => (Q 0 σ_36))))) ∧ (¬ r_19 ≤ 0 → Q r_19 σ_19)))) ∧ (r_8 = 0 → Q (-1) σ_8)))
set_option maxHeartbeats 4000000 in
set_option maxRecDepth 100000 in
theorem hk_wed (l : Launch) (D : va_G) (dA : Nat → ClassId) (o : Nat) (b : Nat → Nat) (hB : hm_D dA o b) (a1 : Int32) (a2 : Int32) (σ : hm_S) {Q : Int32 → hm_S → Prop} (hf : hw_wed a1 a2 σ Q) : Met l yX5_wed (ws_ yX5_wed cX5_wed 4 (some .int)) (hb_R 4 93) (va_Pc [.ref o, .int a1, .int a2] (hm_U D dA o b σ)) (va_Qi Q (hm_U D dA o b) (hm_A o b)) 0 0 (hm_A o b) := by
  refine hm_Mi hB (LV := [(0, .ref o), (1, .int a1), (2, .int a2)]) (by decide) rfl (Nat.le_of_ble_eq_true rfl) (fun p e s m args below meth c ls QQ C M hl hret => ?_)
  have hx := C.1.1
  have hb := C.1.2.1
  refine lv_aload_n hx hb dX5_wed_0 rfl (lv_at hl 0 rfl) ?_
  refine lv_iconst (v := 0) hx hb dX5_wed_1 rfl ?_
  refine hm_put0 C M q2067 dX5_wed_2 (fun H locs M => ?_)
  refine lv_aload_n hx hb dX5_wed_5 rfl (lv_at hl 0 rfl) ?_
  refine lv_iload_n hx hb dX5_wed_6 rfl (lv_at hl 1 rfl) ?_
  refine lv_iload_n hx hb dX5_wed_7 rfl (lv_at hl 2 rfl) ?_
  refine hm_ci C M hl.1 (As := [.int a1, .int a2]) (rest := []) (hk_areTwo l D dA o b hB a1 a2 (hm_sI σ 0 0) hf) (n := 2) q2436 q2438 qs89 q140 q2439 (by decide +kernel) rfl ⟨Nat.le_of_ble_eq_true rfl, Nat.le_of_ble_eq_true rfl⟩ rfl (Nat.le_of_ble_eq_true rfl) dX5_wed_8 (fun r_8 σ_8 H locs hf M => ?_)
  obtain ⟨hft, hff⟩ := hf
  refine lv_if_ne (tgt := 16) hx hb dX5_wed_11 (by decide) (fun c1 => ?_) (fun c1 => ?_)
  · have hf := hft c1
    refine lv_aload_n hx hb dX5_wed_16 rfl (lv_at hl 0 rfl) ?_
    refine lv_iload_n hx hb dX5_wed_17 rfl (lv_at hl 1 rfl) ?_
    refine lv_iload_n hx hb dX5_wed_18 rfl (lv_at hl 2 rfl) ?_
    refine hm_ci C M hl.1 (As := [.int a1, .int a2]) (rest := []) (hk_whyWed l D dA o b hB a1 a2 σ_8 hf) (n := 2) q2440 q2442 qs90 q140 q2443 (by decide +kernel) rfl ⟨Nat.le_of_ble_eq_true rfl, Nat.le_of_ble_eq_true rfl⟩ rfl (Nat.le_of_ble_eq_true rfl) dX5_wed_19 (fun r_19 σ_19 H locs hf M => ?_)
    refine lv_istore_n (lv' := [(3, .int r_19), (0, .ref o), (1, .int a1), (2, .int a2)]) hx hb dX5_wed_22 rfl hl (by decide) rfl (fun ls hl => ?_)
    refine lv_iload_n hx hb dX5_wed_23 rfl (lv_at hl 0 rfl) ?_
    obtain ⟨hft, hff⟩ := hf
    refine lv_if_le (tgt := 29) hx hb dX5_wed_24 (by decide) (fun c1 => ?_) (fun c1 => ?_)
    · have hf := hft c1
      refine lv_aload_n hx hb dX5_wed_29 rfl (lv_at hl 1 rfl) ?_
      refine hm_cv C M hl.1 (As := []) (rest := []) (hk_stores l D dA o b hB  σ_19 hf) (n := 0) q2393 q2395 qs80 q140 q2396 (by decide +kernel) rfl ⟨Nat.le_of_ble_eq_true rfl, Nat.le_of_ble_eq_true rfl⟩ rfl (Nat.le_of_ble_eq_true rfl) dX5_wed_30 (fun σ_30 H locs hf M => ?_)
      refine lv_aload_n hx hb dX5_wed_33 rfl (lv_at hl 1 rfl) ?_
      refine lv_iload_n hx hb dX5_wed_34 rfl (lv_at hl 2 rfl) ?_
      refine lv_iload_n hx hb dX5_wed_35 rfl (lv_at hl 3 rfl) ?_
      refine hm_cv C M hl.1 (As := [.int a1, .int a2]) (rest := []) (hk_weds l D dA o b hB a1 a2 σ_30 hf) (n := 2) q2444 q2446 qs91 q140 q2447 (by decide +kernel) rfl ⟨Nat.le_of_ble_eq_true rfl, Nat.le_of_ble_eq_true rfl⟩ rfl (Nat.le_of_ble_eq_true rfl) dX5_wed_36 (fun σ_36 H locs hf M => ?_)
      refine lv_iconst (v := 0) hx hb dX5_wed_39 rfl ?_
      exact hret _ _ _ _ _ _ dX5_wed_40 M hf
    · have hf := hff c1
      refine lv_iload_n hx hb dX5_wed_27 rfl (lv_at hl 0 rfl) ?_
      exact hret _ _ _ _ _ _ dX5_wed_28 M hf
  · have hf := hff c1
    refine lv_iconst (v := (-1)) hx hb dX5_wed_14 rfl ?_
    exact hret _ _ _ _ _ _ dX5_wed_15 M hf
def hw_part (a1 : Int32) (σ : hm_S) (Q : Int32 → hm_S → Prop) : Prop := hw_isPerson a1 (hm_sI σ 0 0) (fun r_7 σ_7 => ((¬ r_7 = 0 → vp_in (117 + a1) 346 ∧ ((¬ (hm_gA σ_7 6 (117 + a1)) = 0 → hw_stores  σ_7 (fun σ_30 => (hw_parts0 a1 σ_30 (fun σ_35 => (Q 0 σ_35))))) ∧ ((hm_gA σ_7 6 (117 + a1)) = 0 → Q 1 σ_7))) ∧ (r_7 = 0 → Q (-1) σ_7)))
set_option maxHeartbeats 4000000 in
set_option maxRecDepth 100000 in
theorem hk_part (l : Launch) (D : va_G) (dA : Nat → ClassId) (o : Nat) (b : Nat → Nat) (hB : hm_D dA o b) (a1 : Int32) (σ : hm_S) {Q : Int32 → hm_S → Prop} (hf : hw_part a1 σ Q) : Met l yX5_part (ws_ yX5_part cX5_part 2 (some .int)) (hb_R 2 43) (va_Pc [.ref o, .int a1] (hm_U D dA o b σ)) (va_Qi Q (hm_U D dA o b) (hm_A o b)) 0 0 (hm_A o b) := by
  refine hm_Mi hB (LV := [(0, .ref o), (1, .int a1)]) (by decide) rfl (Nat.le_of_ble_eq_true rfl) (fun p e s m args below meth c ls QQ C M hl hret => ?_)
  have hx := C.1.1
  have hb := C.1.2.1
  refine lv_aload_n hx hb dX5_part_0 rfl (lv_at hl 0 rfl) ?_
  refine lv_iconst (v := 0) hx hb dX5_part_1 rfl ?_
  refine hm_put0 C M q2067 dX5_part_2 (fun H locs M => ?_)
  refine lv_aload_n hx hb dX5_part_5 rfl (lv_at hl 0 rfl) ?_
  refine lv_iload_n hx hb dX5_part_6 rfl (lv_at hl 1 rfl) ?_
  refine hm_ci C M hl.1 (As := [.int a1]) (rest := []) (hk_isPerson l D dA o b hB a1 (hm_sI σ 0 0) hf) (n := 1) q2333 q2335 qs69 q140 q2336 (by decide +kernel) rfl ⟨Nat.le_of_ble_eq_true rfl, Nat.le_of_ble_eq_true rfl⟩ rfl (Nat.le_of_ble_eq_true rfl) dX5_part_7 (fun r_7 σ_7 H locs hf M => ?_)
  obtain ⟨hft, hff⟩ := hf
  refine lv_if_ne (tgt := 15) hx hb dX5_part_10 (by decide) (fun c1 => ?_) (fun c1 => ?_)
  · have hf := hft c1
    refine lv_aload_n hx hb dX5_part_15 rfl (lv_at hl 0 rfl) ?_
    refine hm_get C M 6 (by decide) q2073 (v := .ref (b 6)) rfl dX5_part_16 ?_
    refine lv_bipush (v := 117) hx hb dX5_part_19 rfl ?_
    refine lv_iload_n hx hb dX5_part_21 rfl (lv_at hl 1 rfl) ?_
    refine lv_iadd hx hb dX5_part_22 ?_
    obtain ⟨g1, hf⟩ := hf
    refine hm_ald6 C M g1 dX5_part_23 ?_
    obtain ⟨hft, hff⟩ := hf
    refine lv_if_ne (tgt := 29) hx hb dX5_part_24 (by decide) (fun c1 => ?_) (fun c1 => ?_)
    · have hf := hft c1
      refine lv_aload_n hx hb dX5_part_29 rfl (lv_at hl 0 rfl) ?_
      refine hm_cv C M hl.1 (As := []) (rest := []) (hk_stores l D dA o b hB  σ_7 hf) (n := 0) q2393 q2395 qs80 q140 q2396 (by decide +kernel) rfl ⟨Nat.le_of_ble_eq_true rfl, Nat.le_of_ble_eq_true rfl⟩ rfl (Nat.le_of_ble_eq_true rfl) dX5_part_30 (fun σ_30 H locs hf M => ?_)
      refine lv_aload_n hx hb dX5_part_33 rfl (lv_at hl 0 rfl) ?_
      refine lv_iload_n hx hb dX5_part_34 rfl (lv_at hl 1 rfl) ?_
      refine hm_cv C M hl.1 (As := [.int a1]) (rest := []) (hk_parts0 l D dA o b hB a1 σ_30 hf) (n := 1) q2401 q2403 qs82 q140 q2404 (by decide +kernel) rfl ⟨Nat.le_of_ble_eq_true rfl, Nat.le_of_ble_eq_true rfl⟩ rfl (Nat.le_of_ble_eq_true rfl) dX5_part_35 (fun σ_35 H locs hf M => ?_)
      refine lv_iconst (v := 0) hx hb dX5_part_38 rfl ?_
      exact hret _ _ _ _ _ _ dX5_part_39 M hf
    · have hf := hff c1
      refine lv_iconst (v := 1) hx hb dX5_part_27 rfl ?_
      exact hret _ _ _ _ _ _ dX5_part_28 M hf
  · have hf := hff c1
    refine lv_iconst (v := (-1)) hx hb dX5_part_13 rfl ?_
    exact hret _ _ _ _ _ _ dX5_part_14 M hf
def hw_gives (a1 : Int32) (a2 : Int32) (a3 : Int32) (σ : hm_S) (Q : hm_S → Prop) : Prop := vp_in (105 + a1) 346 ∧ (vp_in (105 + a1) 346 ∧ (vp_in (105 + a2) 346 ∧ (vp_in (105 + a2) 346 ∧ (Q (hm_sA (hm_sA σ 6 (105 + a1) ((hm_gA σ 6 (105 + a1)) - a3)) 6 (105 + a2) ((hm_gA (hm_sA σ 6 (105 + a1) ((hm_gA σ 6 (105 + a1)) - a3)) 6 (105 + a2)) + a3))))))
set_option maxHeartbeats 4000000 in
set_option maxRecDepth 100000 in
theorem hk_gives (l : Launch) (D : va_G) (dA : Nat → ClassId) (o : Nat) (b : Nat → Nat) (hB : hm_D dA o b) (a1 : Int32) (a2 : Int32) (a3 : Int32) (σ : hm_S) {Q : hm_S → Prop} (hf : hw_gives a1 a2 a3 σ Q) : Met l yX5_gives (ws_ yX5_gives cX5_gives 4 none) (hb_R 0 0) (va_Pc [.ref o, .int a1, .int a2, .int a3] (hm_U D dA o b σ)) (va_Qv Q (hm_U D dA o b) (hm_A o b)) 0 0 (hm_A o b) := by
  refine hm_Mv hB (LV := [(0, .ref o), (1, .int a1), (2, .int a2), (3, .int a3)]) (by decide) rfl (Nat.le_of_ble_eq_true rfl) (fun p e s m args below meth c ls QQ C M hl hret => ?_)
  have hx := C.1.1
  have hb := C.1.2.1
  refine lv_aload_n hx hb dX5_gives_0 rfl (lv_at hl 0 rfl) ?_
  refine hm_get C M 6 (by decide) q2073 (v := .ref (b 6)) rfl dX5_gives_1 ?_
  refine lv_bipush (v := 105) hx hb dX5_gives_4 rfl ?_
  refine lv_iload_n hx hb dX5_gives_6 rfl (lv_at hl 1 rfl) ?_
  refine lv_iadd hx hb dX5_gives_7 ?_
  refine lv_dup2_11 hx hb dX5_gives_8 rfl rfl ?_
  obtain ⟨g1, hf⟩ := hf
  refine hm_ald6 C M g1 dX5_gives_9 ?_
  refine lv_iload_n hx hb dX5_gives_10 rfl (lv_at hl 3 rfl) ?_
  refine lv_isub hx hb dX5_gives_11 ?_
  obtain ⟨g1, hf⟩ := hf
  refine hm_ast6 C M g1 dX5_gives_12 (fun H locs M => ?_)
  refine lv_aload_n hx hb dX5_gives_13 rfl (lv_at hl 0 rfl) ?_
  refine hm_get C M 6 (by decide) q2073 (v := .ref (b 6)) rfl dX5_gives_14 ?_
  refine lv_bipush (v := 105) hx hb dX5_gives_17 rfl ?_
  refine lv_iload_n hx hb dX5_gives_19 rfl (lv_at hl 2 rfl) ?_
  refine lv_iadd hx hb dX5_gives_20 ?_
  refine lv_dup2_11 hx hb dX5_gives_21 rfl rfl ?_
  obtain ⟨g1, hf⟩ := hf
  refine hm_ald6 C M g1 dX5_gives_22 ?_
  refine lv_iload_n hx hb dX5_gives_23 rfl (lv_at hl 3 rfl) ?_
  refine lv_iadd hx hb dX5_gives_24 ?_
  obtain ⟨g1, hf⟩ := hf
  refine hm_ast6 C M g1 dX5_gives_25 (fun H locs M => ?_)
  exact hret _ _ _ _ _ dX5_gives_26 M hf
def hw_whyGive (a1 : Int32) (a2 : Int32) (a3 : Int32) (σ : hm_S) (Q : Int32 → hm_S → Prop) : Prop := hw_isLiving a1 σ (fun r_2 σ_2 => ((r_2 = 0 → Q 1 σ_2) ∧ (¬ r_2 = 0 → hw_isLiving a2 σ_2 (fun r_10 σ_10 => ((¬ r_10 = 0 → vp_in (105 + a1) 346 ∧ ((a3 ≤ (hm_gA σ_10 6 (105 + a1)) → Q 0 σ_10) ∧ (¬ a3 ≤ (hm_gA σ_10 6 (105 + a1)) → Q 2 σ_10))) ∧ (r_10 = 0 → Q 1 σ_10))))))
set_option maxHeartbeats 4000000 in
set_option maxRecDepth 100000 in
theorem hk_whyGive (l : Launch) (D : va_G) (dA : Nat → ClassId) (o : Nat) (b : Nat → Nat) (hB : hm_D dA o b) (a1 : Int32) (a2 : Int32) (a3 : Int32) (σ : hm_S) {Q : Int32 → hm_S → Prop} (hf : hw_whyGive a1 a2 a3 σ Q) : Met l yX5_whyGive (ws_ yX5_whyGive cX5_whyGive 4 (some .int)) (hb_R 2 42) (va_Pc [.ref o, .int a1, .int a2, .int a3] (hm_U D dA o b σ)) (va_Qi Q (hm_U D dA o b) (hm_A o b)) 0 0 (hm_A o b) := by
  refine hm_Mi hB (LV := [(0, .ref o), (1, .int a1), (2, .int a2), (3, .int a3)]) (by decide) rfl (Nat.le_of_ble_eq_true rfl) (fun p e s m args below meth c ls QQ C M hl hret => ?_)
  have hx := C.1.1
  have hb := C.1.2.1
  refine lv_aload_n hx hb dX5_whyGive_0 rfl (lv_at hl 0 rfl) ?_
  refine lv_iload_n hx hb dX5_whyGive_1 rfl (lv_at hl 1 rfl) ?_
  refine hm_ci C M hl.1 (As := [.int a1]) (rest := []) (hk_isLiving l D dA o b hB a1 σ hf) (n := 1) q2341 q2343 qs71 q140 q2344 (by decide +kernel) rfl ⟨Nat.le_of_ble_eq_true rfl, Nat.le_of_ble_eq_true rfl⟩ rfl (Nat.le_of_ble_eq_true rfl) dX5_whyGive_2 (fun r_2 σ_2 H locs hf M => ?_)
  obtain ⟨hft, hff⟩ := hf
  refine lv_if_eq (tgt := 16) hx hb dX5_whyGive_5 (by decide) (fun c1 => ?_) (fun c1 => ?_)
  · have hf := hft c1
    refine lv_iconst (v := 1) hx hb dX5_whyGive_16 rfl ?_
    refine lv_goto (tgt := 38) hx hb dX5_whyGive_17 (by decide) ?_
    exact hret _ _ _ _ _ _ dX5_whyGive_38 M hf
  · have hf := hff c1
    refine lv_aload_n hx hb dX5_whyGive_8 rfl (lv_at hl 0 rfl) ?_
    refine lv_iload_n hx hb dX5_whyGive_9 rfl (lv_at hl 2 rfl) ?_
    refine hm_ci C M hl.1 (As := [.int a2]) (rest := []) (hk_isLiving l D dA o b hB a2 σ_2 hf) (n := 1) q2341 q2343 qs71 q140 q2344 (by decide +kernel) rfl ⟨Nat.le_of_ble_eq_true rfl, Nat.le_of_ble_eq_true rfl⟩ rfl (Nat.le_of_ble_eq_true rfl) dX5_whyGive_10 (fun r_10 σ_10 H locs hf M => ?_)
    obtain ⟨hft, hff⟩ := hf
    refine lv_if_ne (tgt := 20) hx hb dX5_whyGive_13 (by decide) (fun c1 => ?_) (fun c1 => ?_)
    · have hf := hft c1
      refine lv_aload_n hx hb dX5_whyGive_20 rfl (lv_at hl 0 rfl) ?_
      refine hm_get C M 6 (by decide) q2073 (v := .ref (b 6)) rfl dX5_whyGive_21 ?_
      refine lv_bipush (v := 105) hx hb dX5_whyGive_24 rfl ?_
      refine lv_iload_n hx hb dX5_whyGive_26 rfl (lv_at hl 1 rfl) ?_
      refine lv_iadd hx hb dX5_whyGive_27 ?_
      obtain ⟨g1, hf⟩ := hf
      refine hm_ald6 C M g1 dX5_whyGive_28 ?_
      refine lv_iload_n hx hb dX5_whyGive_29 rfl (lv_at hl 3 rfl) ?_
      obtain ⟨hft, hff⟩ := hf
      refine lv_icmp_ge (tgt := 37) hx hb dX5_whyGive_30 (by decide) (fun c1 => ?_) (fun c1 => ?_)
      · have hf := hft c1
        refine lv_iconst (v := 0) hx hb dX5_whyGive_37 rfl ?_
        exact hret _ _ _ _ _ _ dX5_whyGive_38 M hf
      · have hf := hff c1
        refine lv_iconst (v := 2) hx hb dX5_whyGive_33 rfl ?_
        refine lv_goto (tgt := 38) hx hb dX5_whyGive_34 (by decide) ?_
        exact hret _ _ _ _ _ _ dX5_whyGive_38 M hf
    · have hf := hff c1
      refine lv_iconst (v := 1) hx hb dX5_whyGive_16 rfl ?_
      refine lv_goto (tgt := 38) hx hb dX5_whyGive_17 (by decide) ?_
      exact hret _ _ _ _ _ _ dX5_whyGive_38 M hf
def hw_give (a1 : Int32) (a2 : Int32) (a3 : Int32) (σ : hm_S) (Q : Int32 → hm_S → Prop) : Prop := hw_areTwo a1 a2 (hm_sI σ 0 0) (fun r_8 σ_8 => ((r_8 = 0 → Q (-1) σ_8) ∧ (¬ r_8 = 0 → hw_isIn a3 1 999 σ_8 (fun r_19 σ_19 => ((¬ r_19 = 0 → hw_whyGive a1 a2 a3 σ_19 (fun r_31 σ_31 => ((r_31 ≤ 0 → hw_stores  σ_31 (fun σ_45 => (hw_gives a1 a2 a3 σ_45 (fun σ_52 => (Q 0 σ_52))))) ∧ (¬ r_31 ≤ 0 → Q r_31 σ_31)))) ∧ (r_19 = 0 → Q (-1) σ_19))))))
set_option maxHeartbeats 4000000 in
set_option maxRecDepth 100000 in
theorem hk_give (l : Launch) (D : va_G) (dA : Nat → ClassId) (o : Nat) (b : Nat → Nat) (hB : hm_D dA o b) (a1 : Int32) (a2 : Int32) (a3 : Int32) (σ : hm_S) {Q : Int32 → hm_S → Prop} (hf : hw_give a1 a2 a3 σ Q) : Met l yX5_give (ws_ yX5_give cX5_give 5 (some .int)) (hb_R 3 65) (va_Pc [.ref o, .int a1, .int a2, .int a3] (hm_U D dA o b σ)) (va_Qi Q (hm_U D dA o b) (hm_A o b)) 0 0 (hm_A o b) := by
  refine hm_Mi hB (LV := [(0, .ref o), (1, .int a1), (2, .int a2), (3, .int a3)]) (by decide) rfl (Nat.le_of_ble_eq_true rfl) (fun p e s m args below meth c ls QQ C M hl hret => ?_)
  have hx := C.1.1
  have hb := C.1.2.1
  refine lv_aload_n hx hb dX5_give_0 rfl (lv_at hl 0 rfl) ?_
  refine lv_iconst (v := 0) hx hb dX5_give_1 rfl ?_
  refine hm_put0 C M q2067 dX5_give_2 (fun H locs M => ?_)
  refine lv_aload_n hx hb dX5_give_5 rfl (lv_at hl 0 rfl) ?_
  refine lv_iload_n hx hb dX5_give_6 rfl (lv_at hl 1 rfl) ?_
  refine lv_iload_n hx hb dX5_give_7 rfl (lv_at hl 2 rfl) ?_
  refine hm_ci C M hl.1 (As := [.int a1, .int a2]) (rest := []) (hk_areTwo l D dA o b hB a1 a2 (hm_sI σ 0 0) hf) (n := 2) q2436 q2438 qs89 q140 q2439 (by decide +kernel) rfl ⟨Nat.le_of_ble_eq_true rfl, Nat.le_of_ble_eq_true rfl⟩ rfl (Nat.le_of_ble_eq_true rfl) dX5_give_8 (fun r_8 σ_8 H locs hf M => ?_)
  obtain ⟨hft, hff⟩ := hf
  refine lv_if_eq (tgt := 25) hx hb dX5_give_11 (by decide) (fun c1 => ?_) (fun c1 => ?_)
  · have hf := hft c1
    refine lv_iconst (v := (-1)) hx hb dX5_give_25 rfl ?_
    exact hret _ _ _ _ _ _ dX5_give_26 M hf
  · have hf := hff c1
    refine lv_iload_n hx hb dX5_give_14 rfl (lv_at hl 3 rfl) ?_
    refine lv_iconst (v := 1) hx hb dX5_give_15 rfl ?_
    refine lv_sipush (v := 999) hx hb dX5_give_16 rfl ?_
    refine hm_csi C M hl.1 (As := [.int a3, .int 1, .int 999]) (rest := []) (hk_isIn l D dA o b hB a3 1 999 σ_8 hf) (n := 3) q2280 q2281 q140 q2282 (by decide +kernel) rfl ⟨Nat.le_of_ble_eq_true rfl, Nat.le_of_ble_eq_true rfl⟩ rfl (Nat.le_of_ble_eq_true rfl) dX5_give_19 (fun r_19 σ_19 H locs hf M => ?_)
    obtain ⟨hft, hff⟩ := hf
    refine lv_if_ne (tgt := 27) hx hb dX5_give_22 (by decide) (fun c1 => ?_) (fun c1 => ?_)
    · have hf := hft c1
      refine lv_aload_n hx hb dX5_give_27 rfl (lv_at hl 0 rfl) ?_
      refine lv_iload_n hx hb dX5_give_28 rfl (lv_at hl 1 rfl) ?_
      refine lv_iload_n hx hb dX5_give_29 rfl (lv_at hl 2 rfl) ?_
      refine lv_iload_n hx hb dX5_give_30 rfl (lv_at hl 3 rfl) ?_
      refine hm_ci C M hl.1 (As := [.int a1, .int a2, .int a3]) (rest := []) (hk_whyGive l D dA o b hB a1 a2 a3 σ_19 hf) (n := 3) q2456 q2458 qs92 q140 q2459 (by decide +kernel) rfl ⟨Nat.le_of_ble_eq_true rfl, Nat.le_of_ble_eq_true rfl⟩ rfl (Nat.le_of_ble_eq_true rfl) dX5_give_31 (fun r_31 σ_31 H locs hf M => ?_)
      refine lv_istore (lv' := [(4, .int r_31), (0, .ref o), (1, .int a1), (2, .int a2), (3, .int a3)]) hx hb dX5_give_34 hl (by decide) rfl (fun ls hl => ?_)
      refine lv_iload hx hb dX5_give_36 (lv_at hl 0 rfl) ?_
      obtain ⟨hft, hff⟩ := hf
      refine lv_if_le (tgt := 44) hx hb dX5_give_38 (by decide) (fun c1 => ?_) (fun c1 => ?_)
      · have hf := hft c1
        refine lv_aload_n hx hb dX5_give_44 rfl (lv_at hl 1 rfl) ?_
        refine hm_cv C M hl.1 (As := []) (rest := []) (hk_stores l D dA o b hB  σ_31 hf) (n := 0) q2393 q2395 qs80 q140 q2396 (by decide +kernel) rfl ⟨Nat.le_of_ble_eq_true rfl, Nat.le_of_ble_eq_true rfl⟩ rfl (Nat.le_of_ble_eq_true rfl) dX5_give_45 (fun σ_45 H locs hf M => ?_)
        refine lv_aload_n hx hb dX5_give_48 rfl (lv_at hl 1 rfl) ?_
        refine lv_iload_n hx hb dX5_give_49 rfl (lv_at hl 2 rfl) ?_
        refine lv_iload_n hx hb dX5_give_50 rfl (lv_at hl 3 rfl) ?_
        refine lv_iload_n hx hb dX5_give_51 rfl (lv_at hl 4 rfl) ?_
        refine hm_cv C M hl.1 (As := [.int a1, .int a2, .int a3]) (rest := []) (hk_gives l D dA o b hB a1 a2 a3 σ_45 hf) (n := 3) q2460 q2462 qs93 q140 q2463 (by decide +kernel) rfl ⟨Nat.le_of_ble_eq_true rfl, Nat.le_of_ble_eq_true rfl⟩ rfl (Nat.le_of_ble_eq_true rfl) dX5_give_52 (fun σ_52 H locs hf M => ?_)
        refine lv_iconst (v := 0) hx hb dX5_give_55 rfl ?_
        exact hret _ _ _ _ _ _ dX5_give_56 M hf
      · have hf := hff c1
        refine lv_iload hx hb dX5_give_41 (lv_at hl 0 rfl) ?_
        exact hret _ _ _ _ _ _ dX5_give_43 M hf
    · have hf := hff c1
      refine lv_iconst (v := (-1)) hx hb dX5_give_25 rfl ?_
      exact hret _ _ _ _ _ _ dX5_give_26 M hf
def hw_leaves (a1 : Int32) (a2 : Int32) (a3 : Int32) (σ : hm_S) (Q : hm_S → Prop) : Prop := vp_in 104 346 ∧ (vp_in (129 + (hm_gA σ 6 104)) 346 ∧ (vp_in 104 346 ∧ (vp_in (141 + (hm_gA (hm_sA σ 6 (129 + (hm_gA σ 6 104)) a1) 6 104)) 346 ∧ (vp_in 104 346 ∧ (vp_in (153 + (hm_gA (hm_sA (hm_sA σ 6 (129 + (hm_gA σ 6 104)) a1) 6 (141 + (hm_gA (hm_sA σ 6 (129 + (hm_gA σ 6 104)) a1) 6 104)) a2) 6 104)) 346 ∧ (vp_in 104 346 ∧ (vp_in 104 346 ∧ (Q (hm_sA (hm_sA (hm_sA (hm_sA σ 6 (129 + (hm_gA σ 6 104)) a1) 6 (141 + (hm_gA (hm_sA σ 6 (129 + (hm_gA σ 6 104)) a1) 6 104)) a2) 6 (153 + (hm_gA (hm_sA (hm_sA σ 6 (129 + (hm_gA σ 6 104)) a1) 6 (141 + (hm_gA (hm_sA σ 6 (129 + (hm_gA σ 6 104)) a1) 6 104)) a2) 6 104)) a3) 6 104 ((hm_gA (hm_sA (hm_sA (hm_sA σ 6 (129 + (hm_gA σ 6 104)) a1) 6 (141 + (hm_gA (hm_sA σ 6 (129 + (hm_gA σ 6 104)) a1) 6 104)) a2) 6 (153 + (hm_gA (hm_sA (hm_sA σ 6 (129 + (hm_gA σ 6 104)) a1) 6 (141 + (hm_gA (hm_sA σ 6 (129 + (hm_gA σ 6 104)) a1) 6 104)) a2) 6 104)) a3) 6 104) + 1))))))))))
set_option maxHeartbeats 4000000 in
set_option maxRecDepth 100000 in
theorem hk_leaves (l : Launch) (D : va_G) (dA : Nat → ClassId) (o : Nat) (b : Nat → Nat) (hB : hm_D dA o b) (a1 : Int32) (a2 : Int32) (a3 : Int32) (σ : hm_S) {Q : hm_S → Prop} (hf : hw_leaves a1 a2 a3 σ Q) : Met l yX5_leaves (ws_ yX5_leaves cX5_leaves 4 none) (hb_R 0 0) (va_Pc [.ref o, .int a1, .int a2, .int a3] (hm_U D dA o b σ)) (va_Qv Q (hm_U D dA o b) (hm_A o b)) 0 0 (hm_A o b) := by
  refine hm_Mv hB (LV := [(0, .ref o), (1, .int a1), (2, .int a2), (3, .int a3)]) (by decide) rfl (Nat.le_of_ble_eq_true rfl) (fun p e s m args below meth c ls QQ C M hl hret => ?_)
  have hx := C.1.1
  have hb := C.1.2.1
  refine lv_aload_n hx hb dX5_leaves_0 rfl (lv_at hl 0 rfl) ?_
  refine hm_get C M 6 (by decide) q2073 (v := .ref (b 6)) rfl dX5_leaves_1 ?_
  refine lv_sipush (v := 129) hx hb dX5_leaves_4 rfl ?_
  refine lv_aload_n hx hb dX5_leaves_7 rfl (lv_at hl 0 rfl) ?_
  refine hm_get C M 6 (by decide) q2073 (v := .ref (b 6)) rfl dX5_leaves_8 ?_
  refine lv_bipush (v := 104) hx hb dX5_leaves_11 rfl ?_
  obtain ⟨g1, hf⟩ := hf
  refine hm_ald6 C M g1 dX5_leaves_13 ?_
  refine lv_iadd hx hb dX5_leaves_14 ?_
  refine lv_iload_n hx hb dX5_leaves_15 rfl (lv_at hl 1 rfl) ?_
  obtain ⟨g1, hf⟩ := hf
  refine hm_ast6 C M g1 dX5_leaves_16 (fun H locs M => ?_)
  refine lv_aload_n hx hb dX5_leaves_17 rfl (lv_at hl 0 rfl) ?_
  refine hm_get C M 6 (by decide) q2073 (v := .ref (b 6)) rfl dX5_leaves_18 ?_
  refine lv_sipush (v := 141) hx hb dX5_leaves_21 rfl ?_
  refine lv_aload_n hx hb dX5_leaves_24 rfl (lv_at hl 0 rfl) ?_
  refine hm_get C M 6 (by decide) q2073 (v := .ref (b 6)) rfl dX5_leaves_25 ?_
  refine lv_bipush (v := 104) hx hb dX5_leaves_28 rfl ?_
  obtain ⟨g1, hf⟩ := hf
  refine hm_ald6 C M g1 dX5_leaves_30 ?_
  refine lv_iadd hx hb dX5_leaves_31 ?_
  refine lv_iload_n hx hb dX5_leaves_32 rfl (lv_at hl 2 rfl) ?_
  obtain ⟨g1, hf⟩ := hf
  refine hm_ast6 C M g1 dX5_leaves_33 (fun H locs M => ?_)
  refine lv_aload_n hx hb dX5_leaves_34 rfl (lv_at hl 0 rfl) ?_
  refine hm_get C M 6 (by decide) q2073 (v := .ref (b 6)) rfl dX5_leaves_35 ?_
  refine lv_sipush (v := 153) hx hb dX5_leaves_38 rfl ?_
  refine lv_aload_n hx hb dX5_leaves_41 rfl (lv_at hl 0 rfl) ?_
  refine hm_get C M 6 (by decide) q2073 (v := .ref (b 6)) rfl dX5_leaves_42 ?_
  refine lv_bipush (v := 104) hx hb dX5_leaves_45 rfl ?_
  obtain ⟨g1, hf⟩ := hf
  refine hm_ald6 C M g1 dX5_leaves_47 ?_
  refine lv_iadd hx hb dX5_leaves_48 ?_
  refine lv_iload_n hx hb dX5_leaves_49 rfl (lv_at hl 3 rfl) ?_
  obtain ⟨g1, hf⟩ := hf
  refine hm_ast6 C M g1 dX5_leaves_50 (fun H locs M => ?_)
  refine lv_aload_n hx hb dX5_leaves_51 rfl (lv_at hl 0 rfl) ?_
  refine hm_get C M 6 (by decide) q2073 (v := .ref (b 6)) rfl dX5_leaves_52 ?_
  refine lv_bipush (v := 104) hx hb dX5_leaves_55 rfl ?_
  refine lv_dup2_11 hx hb dX5_leaves_57 rfl rfl ?_
  obtain ⟨g1, hf⟩ := hf
  refine hm_ald6 C M g1 dX5_leaves_58 ?_
  refine lv_iconst (v := 1) hx hb dX5_leaves_59 rfl ?_
  refine lv_iadd hx hb dX5_leaves_60 ?_
  obtain ⟨g1, hf⟩ := hf
  refine hm_ast6 C M g1 dX5_leaves_61 (fun H locs M => ?_)
  exact hret _ _ _ _ _ dX5_leaves_62 M hf
def hw_whyLeave (a1 : Int32) (a2 : Int32) (σ : hm_S) (Q : Int32 → hm_S → Prop) : Prop := hw_isLiving a1 σ (fun r_2 σ_2 => ((r_2 = 0 → Q 1 σ_2) ∧ (¬ r_2 = 0 → hw_isLiving a2 σ_2 (fun r_10 σ_10 => ((¬ r_10 = 0 → vp_in 104 346 ∧ ((¬ (hm_gA σ_10 6 104) = 12 → Q 0 σ_10) ∧ ((hm_gA σ_10 6 104) = 12 → Q 2 σ_10))) ∧ (r_10 = 0 → Q 1 σ_10))))))
set_option maxHeartbeats 4000000 in
set_option maxRecDepth 100000 in
theorem hk_whyLeave (l : Launch) (D : va_G) (dA : Nat → ClassId) (o : Nat) (b : Nat → Nat) (hB : hm_D dA o b) (a1 : Int32) (a2 : Int32) (σ : hm_S) {Q : Int32 → hm_S → Prop} (hf : hw_whyLeave a1 a2 σ Q) : Met l yX5_whyLeave (ws_ yX5_whyLeave cX5_whyLeave 3 (some .int)) (hb_R 2 42) (va_Pc [.ref o, .int a1, .int a2] (hm_U D dA o b σ)) (va_Qi Q (hm_U D dA o b) (hm_A o b)) 0 0 (hm_A o b) := by
  refine hm_Mi hB (LV := [(0, .ref o), (1, .int a1), (2, .int a2)]) (by decide) rfl (Nat.le_of_ble_eq_true rfl) (fun p e s m args below meth c ls QQ C M hl hret => ?_)
  have hx := C.1.1
  have hb := C.1.2.1
  refine lv_aload_n hx hb dX5_whyLeave_0 rfl (lv_at hl 0 rfl) ?_
  refine lv_iload_n hx hb dX5_whyLeave_1 rfl (lv_at hl 1 rfl) ?_
  refine hm_ci C M hl.1 (As := [.int a1]) (rest := []) (hk_isLiving l D dA o b hB a1 σ hf) (n := 1) q2341 q2343 qs71 q140 q2344 (by decide +kernel) rfl ⟨Nat.le_of_ble_eq_true rfl, Nat.le_of_ble_eq_true rfl⟩ rfl (Nat.le_of_ble_eq_true rfl) dX5_whyLeave_2 (fun r_2 σ_2 H locs hf M => ?_)
  obtain ⟨hft, hff⟩ := hf
  refine lv_if_eq (tgt := 16) hx hb dX5_whyLeave_5 (by decide) (fun c1 => ?_) (fun c1 => ?_)
  · have hf := hft c1
    refine lv_iconst (v := 1) hx hb dX5_whyLeave_16 rfl ?_
    refine lv_goto (tgt := 37) hx hb dX5_whyLeave_17 (by decide) ?_
    exact hret _ _ _ _ _ _ dX5_whyLeave_37 M hf
  · have hf := hff c1
    refine lv_aload_n hx hb dX5_whyLeave_8 rfl (lv_at hl 0 rfl) ?_
    refine lv_iload_n hx hb dX5_whyLeave_9 rfl (lv_at hl 2 rfl) ?_
    refine hm_ci C M hl.1 (As := [.int a2]) (rest := []) (hk_isLiving l D dA o b hB a2 σ_2 hf) (n := 1) q2341 q2343 qs71 q140 q2344 (by decide +kernel) rfl ⟨Nat.le_of_ble_eq_true rfl, Nat.le_of_ble_eq_true rfl⟩ rfl (Nat.le_of_ble_eq_true rfl) dX5_whyLeave_10 (fun r_10 σ_10 H locs hf M => ?_)
    obtain ⟨hft, hff⟩ := hf
    refine lv_if_ne (tgt := 20) hx hb dX5_whyLeave_13 (by decide) (fun c1 => ?_) (fun c1 => ?_)
    · have hf := hft c1
      refine lv_aload_n hx hb dX5_whyLeave_20 rfl (lv_at hl 0 rfl) ?_
      refine hm_get C M 6 (by decide) q2073 (v := .ref (b 6)) rfl dX5_whyLeave_21 ?_
      refine lv_bipush (v := 104) hx hb dX5_whyLeave_24 rfl ?_
      obtain ⟨g1, hf⟩ := hf
      refine hm_ald6 C M g1 dX5_whyLeave_26 ?_
      refine lv_bipush (v := 12) hx hb dX5_whyLeave_27 rfl ?_
      obtain ⟨hft, hff⟩ := hf
      refine lv_icmp_ne (tgt := 36) hx hb dX5_whyLeave_29 (by decide) (fun c1 => ?_) (fun c1 => ?_)
      · have hf := hft c1
        refine lv_iconst (v := 0) hx hb dX5_whyLeave_36 rfl ?_
        exact hret _ _ _ _ _ _ dX5_whyLeave_37 M hf
      · have hf := hff c1
        refine lv_iconst (v := 2) hx hb dX5_whyLeave_32 rfl ?_
        refine lv_goto (tgt := 37) hx hb dX5_whyLeave_33 (by decide) ?_
        exact hret _ _ _ _ _ _ dX5_whyLeave_37 M hf
    · have hf := hff c1
      refine lv_iconst (v := 1) hx hb dX5_whyLeave_16 rfl ?_
      refine lv_goto (tgt := 37) hx hb dX5_whyLeave_17 (by decide) ?_
      exact hret _ _ _ _ _ _ dX5_whyLeave_37 M hf
def hw_leave (a1 : Int32) (a2 : Int32) (a3 : Int32) (σ : hm_S) (Q : Int32 → hm_S → Prop) : Prop := hw_areTwo a1 a2 (hm_sI σ 0 0) (fun r_8 σ_8 => ((r_8 = 0 → Q (-1) σ_8) ∧ (¬ r_8 = 0 → hw_isIn a3 1 999 σ_8 (fun r_19 σ_19 => ((¬ r_19 = 0 → hw_whyLeave a1 a2 σ_19 (fun r_30 σ_30 => ((r_30 ≤ 0 → hw_stores  σ_30 (fun σ_44 => (hw_leaves a1 a2 a3 σ_44 (fun σ_51 => (Q 0 σ_51))))) ∧ (¬ r_30 ≤ 0 → Q r_30 σ_30)))) ∧ (r_19 = 0 → Q (-1) σ_19))))))
set_option maxHeartbeats 4000000 in
set_option maxRecDepth 100000 in
theorem hk_leave (l : Launch) (D : va_G) (dA : Nat → ClassId) (o : Nat) (b : Nat → Nat) (hB : hm_D dA o b) (a1 : Int32) (a2 : Int32) (a3 : Int32) (σ : hm_S) {Q : Int32 → hm_S → Prop} (hf : hw_leave a1 a2 a3 σ Q) : Met l yX5_leave (ws_ yX5_leave cX5_leave 5 (some .int)) (hb_R 3 65) (va_Pc [.ref o, .int a1, .int a2, .int a3] (hm_U D dA o b σ)) (va_Qi Q (hm_U D dA o b) (hm_A o b)) 0 0 (hm_A o b) := by
  refine hm_Mi hB (LV := [(0, .ref o), (1, .int a1), (2, .int a2), (3, .int a3)]) (by decide) rfl (Nat.le_of_ble_eq_true rfl) (fun p e s m args below meth c ls QQ C M hl hret => ?_)
  have hx := C.1.1
  have hb := C.1.2.1
  refine lv_aload_n hx hb dX5_leave_0 rfl (lv_at hl 0 rfl) ?_
  refine lv_iconst (v := 0) hx hb dX5_leave_1 rfl ?_
  refine hm_put0 C M q2067 dX5_leave_2 (fun H locs M => ?_)
  refine lv_aload_n hx hb dX5_leave_5 rfl (lv_at hl 0 rfl) ?_
  refine lv_iload_n hx hb dX5_leave_6 rfl (lv_at hl 1 rfl) ?_
  refine lv_iload_n hx hb dX5_leave_7 rfl (lv_at hl 2 rfl) ?_
  refine hm_ci C M hl.1 (As := [.int a1, .int a2]) (rest := []) (hk_areTwo l D dA o b hB a1 a2 (hm_sI σ 0 0) hf) (n := 2) q2436 q2438 qs89 q140 q2439 (by decide +kernel) rfl ⟨Nat.le_of_ble_eq_true rfl, Nat.le_of_ble_eq_true rfl⟩ rfl (Nat.le_of_ble_eq_true rfl) dX5_leave_8 (fun r_8 σ_8 H locs hf M => ?_)
  obtain ⟨hft, hff⟩ := hf
  refine lv_if_eq (tgt := 25) hx hb dX5_leave_11 (by decide) (fun c1 => ?_) (fun c1 => ?_)
  · have hf := hft c1
    refine lv_iconst (v := (-1)) hx hb dX5_leave_25 rfl ?_
    exact hret _ _ _ _ _ _ dX5_leave_26 M hf
  · have hf := hff c1
    refine lv_iload_n hx hb dX5_leave_14 rfl (lv_at hl 3 rfl) ?_
    refine lv_iconst (v := 1) hx hb dX5_leave_15 rfl ?_
    refine lv_sipush (v := 999) hx hb dX5_leave_16 rfl ?_
    refine hm_csi C M hl.1 (As := [.int a3, .int 1, .int 999]) (rest := []) (hk_isIn l D dA o b hB a3 1 999 σ_8 hf) (n := 3) q2280 q2281 q140 q2282 (by decide +kernel) rfl ⟨Nat.le_of_ble_eq_true rfl, Nat.le_of_ble_eq_true rfl⟩ rfl (Nat.le_of_ble_eq_true rfl) dX5_leave_19 (fun r_19 σ_19 H locs hf M => ?_)
    obtain ⟨hft, hff⟩ := hf
    refine lv_if_ne (tgt := 27) hx hb dX5_leave_22 (by decide) (fun c1 => ?_) (fun c1 => ?_)
    · have hf := hft c1
      refine lv_aload_n hx hb dX5_leave_27 rfl (lv_at hl 0 rfl) ?_
      refine lv_iload_n hx hb dX5_leave_28 rfl (lv_at hl 1 rfl) ?_
      refine lv_iload_n hx hb dX5_leave_29 rfl (lv_at hl 2 rfl) ?_
      refine hm_ci C M hl.1 (As := [.int a1, .int a2]) (rest := []) (hk_whyLeave l D dA o b hB a1 a2 σ_19 hf) (n := 2) q2468 q2470 qs94 q140 q2471 (by decide +kernel) rfl ⟨Nat.le_of_ble_eq_true rfl, Nat.le_of_ble_eq_true rfl⟩ rfl (Nat.le_of_ble_eq_true rfl) dX5_leave_30 (fun r_30 σ_30 H locs hf M => ?_)
      refine lv_istore (lv' := [(4, .int r_30), (0, .ref o), (1, .int a1), (2, .int a2), (3, .int a3)]) hx hb dX5_leave_33 hl (by decide) rfl (fun ls hl => ?_)
      refine lv_iload hx hb dX5_leave_35 (lv_at hl 0 rfl) ?_
      obtain ⟨hft, hff⟩ := hf
      refine lv_if_le (tgt := 43) hx hb dX5_leave_37 (by decide) (fun c1 => ?_) (fun c1 => ?_)
      · have hf := hft c1
        refine lv_aload_n hx hb dX5_leave_43 rfl (lv_at hl 1 rfl) ?_
        refine hm_cv C M hl.1 (As := []) (rest := []) (hk_stores l D dA o b hB  σ_30 hf) (n := 0) q2393 q2395 qs80 q140 q2396 (by decide +kernel) rfl ⟨Nat.le_of_ble_eq_true rfl, Nat.le_of_ble_eq_true rfl⟩ rfl (Nat.le_of_ble_eq_true rfl) dX5_leave_44 (fun σ_44 H locs hf M => ?_)
        refine lv_aload_n hx hb dX5_leave_47 rfl (lv_at hl 1 rfl) ?_
        refine lv_iload_n hx hb dX5_leave_48 rfl (lv_at hl 2 rfl) ?_
        refine lv_iload_n hx hb dX5_leave_49 rfl (lv_at hl 3 rfl) ?_
        refine lv_iload_n hx hb dX5_leave_50 rfl (lv_at hl 4 rfl) ?_
        refine hm_cv C M hl.1 (As := [.int a1, .int a2, .int a3]) (rest := []) (hk_leaves l D dA o b hB a1 a2 a3 σ_44 hf) (n := 3) q2472 q2474 qs95 q140 q2475 (by decide +kernel) rfl ⟨Nat.le_of_ble_eq_true rfl, Nat.le_of_ble_eq_true rfl⟩ rfl (Nat.le_of_ble_eq_true rfl) dX5_leave_51 (fun σ_51 H locs hf M => ?_)
        refine lv_iconst (v := 0) hx hb dX5_leave_54 rfl ?_
        exact hret _ _ _ _ _ _ dX5_leave_55 M hf
      · have hf := hff c1
        refine lv_iload hx hb dX5_leave_40 (lv_at hl 0 rfl) ?_
        exact hret _ _ _ _ _ _ dX5_leave_42 M hf
    · have hf := hff c1
      refine lv_iconst (v := (-1)) hx hb dX5_leave_25 rfl ?_
      exact hret _ _ _ _ _ _ dX5_leave_26 M hf
def hw_revoke (a1 : Int32) (σ : hm_S) (Q : Int32 → hm_S → Prop) : Prop := hw_isPerson a1 (hm_sI σ 0 0) (fun r_7 σ_7 => ((¬ r_7 = 0 → hw_ofPerson 129 a1 σ_7 (fun r_20 σ_20 => ((¬ r_20 = 0 → hw_stores  σ_20 (fun σ_29 => (hw_revokes a1 σ_29 (fun σ_34 => (Q 0 σ_34))))) ∧ (r_20 = 0 → Q 1 σ_20)))) ∧ (r_7 = 0 → Q (-1) σ_7)))
set_option maxHeartbeats 4000000 in
set_option maxRecDepth 100000 in
theorem hk_revoke (l : Launch) (D : va_G) (dA : Nat → ClassId) (o : Nat) (b : Nat → Nat) (hB : hm_D dA o b) (a1 : Int32) (σ : hm_S) {Q : Int32 → hm_S → Prop} (hf : hw_revoke a1 σ Q) : Met l yX5_revoke (ws_ yX5_revoke cX5_revoke 2 (some .int)) (hb_R 2 43) (va_Pc [.ref o, .int a1] (hm_U D dA o b σ)) (va_Qi Q (hm_U D dA o b) (hm_A o b)) 0 0 (hm_A o b) := by
  refine hm_Mi hB (LV := [(0, .ref o), (1, .int a1)]) (by decide) rfl (Nat.le_of_ble_eq_true rfl) (fun p e s m args below meth c ls QQ C M hl hret => ?_)
  have hx := C.1.1
  have hb := C.1.2.1
  refine lv_aload_n hx hb dX5_revoke_0 rfl (lv_at hl 0 rfl) ?_
  refine lv_iconst (v := 0) hx hb dX5_revoke_1 rfl ?_
  refine hm_put0 C M q2067 dX5_revoke_2 (fun H locs M => ?_)
  refine lv_aload_n hx hb dX5_revoke_5 rfl (lv_at hl 0 rfl) ?_
  refine lv_iload_n hx hb dX5_revoke_6 rfl (lv_at hl 1 rfl) ?_
  refine hm_ci C M hl.1 (As := [.int a1]) (rest := []) (hk_isPerson l D dA o b hB a1 (hm_sI σ 0 0) hf) (n := 1) q2333 q2335 qs69 q140 q2336 (by decide +kernel) rfl ⟨Nat.le_of_ble_eq_true rfl, Nat.le_of_ble_eq_true rfl⟩ rfl (Nat.le_of_ble_eq_true rfl) dX5_revoke_7 (fun r_7 σ_7 H locs hf M => ?_)
  obtain ⟨hft, hff⟩ := hf
  refine lv_if_ne (tgt := 15) hx hb dX5_revoke_10 (by decide) (fun c1 => ?_) (fun c1 => ?_)
  · have hf := hft c1
    refine lv_aload_n hx hb dX5_revoke_15 rfl (lv_at hl 0 rfl) ?_
    refine lv_sipush (v := 129) hx hb dX5_revoke_16 rfl ?_
    refine lv_iload_n hx hb dX5_revoke_19 rfl (lv_at hl 1 rfl) ?_
    refine hm_ci C M hl.1 (As := [.int 129, .int a1]) (rest := []) (hk_ofPerson l D dA o b hB 129 a1 σ_7 hf) (n := 2) q2361 q2363 qs76 q140 q2364 (by decide +kernel) rfl ⟨Nat.le_of_ble_eq_true rfl, Nat.le_of_ble_eq_true rfl⟩ rfl (Nat.le_of_ble_eq_true rfl) dX5_revoke_20 (fun r_20 σ_20 H locs hf M => ?_)
    obtain ⟨hft, hff⟩ := hf
    refine lv_if_ne (tgt := 28) hx hb dX5_revoke_23 (by decide) (fun c1 => ?_) (fun c1 => ?_)
    · have hf := hft c1
      refine lv_aload_n hx hb dX5_revoke_28 rfl (lv_at hl 0 rfl) ?_
      refine hm_cv C M hl.1 (As := []) (rest := []) (hk_stores l D dA o b hB  σ_20 hf) (n := 0) q2393 q2395 qs80 q140 q2396 (by decide +kernel) rfl ⟨Nat.le_of_ble_eq_true rfl, Nat.le_of_ble_eq_true rfl⟩ rfl (Nat.le_of_ble_eq_true rfl) dX5_revoke_29 (fun σ_29 H locs hf M => ?_)
      refine lv_aload_n hx hb dX5_revoke_32 rfl (lv_at hl 0 rfl) ?_
      refine lv_iload_n hx hb dX5_revoke_33 rfl (lv_at hl 1 rfl) ?_
      refine hm_cv C M hl.1 (As := [.int a1]) (rest := []) (hk_revokes l D dA o b hB a1 σ_29 hf) (n := 1) q2408 q2410 qs83 q140 q2411 (by decide +kernel) rfl ⟨Nat.le_of_ble_eq_true rfl, Nat.le_of_ble_eq_true rfl⟩ rfl (Nat.le_of_ble_eq_true rfl) dX5_revoke_34 (fun σ_34 H locs hf M => ?_)
      refine lv_iconst (v := 0) hx hb dX5_revoke_37 rfl ?_
      exact hret _ _ _ _ _ _ dX5_revoke_38 M hf
    · have hf := hff c1
      refine lv_iconst (v := 1) hx hb dX5_revoke_26 rfl ?_
      exact hret _ _ _ _ _ _ dX5_revoke_27 M hf
  · have hf := hff c1
    refine lv_iconst (v := (-1)) hx hb dX5_revoke_13 rfl ?_
    exact hret _ _ _ _ _ _ dX5_revoke_14 M hf
def hw_year_b13 : Nat → Int32 → hm_S → (hm_S → Prop) → Prop
  | 0, _, _, _ => False
  | n13 + 1, v1_13, σ13, Q => vp_in 0 346 ∧ (((hm_gA σ13 6 0) ≤ v1_13 → Q σ13) ∧ (¬ (hm_gA σ13 6 0) ≤ v1_13 → hw_isLiving v1_13 σ13 (fun r_25 σ_25 => ((r_25 = 0 → hw_year_b13  n13 (v1_13 + 1) σ_25 Q) ∧ (¬ r_25 = 0 → vp_in (51 + v1_13) 346 ∧ (vp_in 100 346 ∧ ((¬ (hm_gA σ_25 6 (51 + v1_13)) = (hm_gA σ_25 6 100) → hw_year_b13  n13 (v1_13 + 1) σ_25 Q) ∧ ((hm_gA σ_25 6 (51 + v1_13)) = (hm_gA σ_25 6 100) → hw_dies v1_13 σ_25 (fun σ_52 => (hw_year_b13  n13 (v1_13 + 1) σ_52 Q))))))))))
def hw_year  (σ : hm_S) (Q : hm_S → Prop) : Prop := vp_in 100 346 ∧ (vp_in 100 346 ∧ (∃ n, hw_year_b13  n 0 (hm_sA σ 6 100 ((hm_gA σ 6 100) + 1)) Q))
set_option maxHeartbeats 4000000 in
set_option maxRecDepth 100000 in
theorem hk_year (l : Launch) (D : va_G) (dA : Nat → ClassId) (o : Nat) (b : Nat → Nat) (hB : hm_D dA o b)  (σ : hm_S) {Q : hm_S → Prop} (hf : hw_year  σ Q) : Met l yX5_year (ws_ yX5_year cX5_year 2 none) (hb_R 7 164) (va_Pc [.ref o] (hm_U D dA o b σ)) (va_Qv Q (hm_U D dA o b) (hm_A o b)) 0 0 (hm_A o b) := by
  refine hm_Mv hB (LV := [(0, .ref o)]) (by decide) rfl (Nat.le_of_ble_eq_true rfl) (fun p e s m args below meth c ls QQ C M hl hret => ?_)
  have hx := C.1.1
  have hb := C.1.2.1
  have B13 : ∀ (n13 : Nat) (v1_13 : Int32) (σ13 : hm_S) (H : Heap) (locs : List Loc) (ls : Array Slot), hm_M D dA o b s.heap σ13 H locs → lv_has ls 2 [(0, .ref o), (1, .int v1_13)] → hw_year_b13  n13 v1_13 σ13 Q → W p l e (hb_R 7 164) s m args below meth c H locs 0 0 QQ (F0 m 13 ls []) := by
    intro n13
    induction n13 with
    | zero => intro v1_13 σ13 H locs ls M hl hf; exact hf.elim
    | succ n13 ih13 =>
      intro v1_13 σ13 H locs ls M hl hf
      refine lv_iload_n hx hb dX5_year_13 rfl (lv_at hl 1 rfl) ?_
      refine lv_aload_n hx hb dX5_year_14 rfl (lv_at hl 0 rfl) ?_
      refine hm_get C M 6 (by decide) q2073 (v := .ref (b 6)) rfl dX5_year_15 ?_
      refine lv_iconst (v := 0) hx hb dX5_year_18 rfl ?_
      obtain ⟨g1, hf⟩ := hf
      refine hm_ald6 C M g1 dX5_year_19 ?_
      obtain ⟨hft, hff⟩ := hf
      refine lv_icmp_ge (tgt := 61) hx hb dX5_year_20 (by decide) (fun c1 => ?_) (fun c1 => ?_)
      · have hf := hft c1
        exact hret _ _ _ _ _ dX5_year_61 M hf
      · have hf := hff c1
        refine lv_aload_n hx hb dX5_year_23 rfl (lv_at hl 0 rfl) ?_
        refine lv_iload_n hx hb dX5_year_24 rfl (lv_at hl 1 rfl) ?_
        refine hm_ci C M hl.1 (As := [.int v1_13]) (rest := []) (hk_isLiving l D dA o b hB v1_13 σ13 hf) (n := 1) q2341 q2343 qs71 q140 q2344 (by decide +kernel) rfl ⟨Nat.le_of_ble_eq_true rfl, Nat.le_of_ble_eq_true rfl⟩ rfl (Nat.le_of_ble_eq_true rfl) dX5_year_25 (fun r_25 σ_25 H locs hf M => ?_)
        obtain ⟨hft, hff⟩ := hf
        refine lv_if_eq (tgt := 55) hx hb dX5_year_28 (by decide) (fun c1 => ?_) (fun c1 => ?_)
        · have hf := hft c1
          refine lv_iinc (v := v1_13 + 1) (lv' := [(1, .int (v1_13 + 1)), (0, .ref o)]) hx hb dX5_year_55 hl (k := 1) rfl rfl (by decide) rfl (fun ls hl => ?_)
          refine lv_goto (tgt := 13) hx hb dX5_year_58 (by decide) ?_
          exact ih13 (v1_13 + 1) σ_25 _ _ _ M (lv_sub hl [1, 0] rfl) hf
        · have hf := hff c1
          refine lv_aload_n hx hb dX5_year_31 rfl (lv_at hl 0 rfl) ?_
          refine hm_get C M 6 (by decide) q2073 (v := .ref (b 6)) rfl dX5_year_32 ?_
          refine lv_bipush (v := 51) hx hb dX5_year_35 rfl ?_
          refine lv_iload_n hx hb dX5_year_37 rfl (lv_at hl 1 rfl) ?_
          refine lv_iadd hx hb dX5_year_38 ?_
          obtain ⟨g1, hf⟩ := hf
          refine hm_ald6 C M g1 dX5_year_39 ?_
          refine lv_aload_n hx hb dX5_year_40 rfl (lv_at hl 0 rfl) ?_
          refine hm_get C M 6 (by decide) q2073 (v := .ref (b 6)) rfl dX5_year_41 ?_
          refine lv_bipush (v := 100) hx hb dX5_year_44 rfl ?_
          obtain ⟨g1, hf⟩ := hf
          refine hm_ald6 C M g1 dX5_year_46 ?_
          obtain ⟨hft, hff⟩ := hf
          refine lv_icmp_ne (tgt := 55) hx hb dX5_year_47 (by decide) (fun c1 => ?_) (fun c1 => ?_)
          · have hf := hft c1
            refine lv_iinc (v := v1_13 + 1) (lv' := [(1, .int (v1_13 + 1)), (0, .ref o)]) hx hb dX5_year_55 hl (k := 1) rfl rfl (by decide) rfl (fun ls hl => ?_)
            refine lv_goto (tgt := 13) hx hb dX5_year_58 (by decide) ?_
            exact ih13 (v1_13 + 1) σ_25 _ _ _ M (lv_sub hl [1, 0] rfl) hf
          · have hf := hff c1
            refine lv_aload_n hx hb dX5_year_50 rfl (lv_at hl 0 rfl) ?_
            refine lv_iload_n hx hb dX5_year_51 rfl (lv_at hl 1 rfl) ?_
            refine hm_cv C M hl.1 (As := [.int v1_13]) (rest := []) (hk_dies l D dA o b hB v1_13 σ_25 hf) (n := 1) q2397 q2399 qs81 q140 q2400 (by decide +kernel) rfl ⟨Nat.le_of_ble_eq_true rfl, Nat.le_of_ble_eq_true rfl⟩ rfl (Nat.le_of_ble_eq_true rfl) dX5_year_52 (fun σ_52 H locs hf M => ?_)
            refine lv_iinc (v := v1_13 + 1) (lv' := [(1, .int (v1_13 + 1)), (0, .ref o)]) hx hb dX5_year_55 hl (k := 1) rfl rfl (by decide) rfl (fun ls hl => ?_)
            refine lv_goto (tgt := 13) hx hb dX5_year_58 (by decide) ?_
            exact ih13 (v1_13 + 1) σ_52 _ _ _ M (lv_sub hl [1, 0] rfl) hf
  refine lv_aload_n hx hb dX5_year_0 rfl (lv_at hl 0 rfl) ?_
  refine hm_get C M 6 (by decide) q2073 (v := .ref (b 6)) rfl dX5_year_1 ?_
  refine lv_bipush (v := 100) hx hb dX5_year_4 rfl ?_
  refine lv_dup2_11 hx hb dX5_year_6 rfl rfl ?_
  obtain ⟨g1, hf⟩ := hf
  refine hm_ald6 C M g1 dX5_year_7 ?_
  refine lv_iconst (v := 1) hx hb dX5_year_8 rfl ?_
  refine lv_iadd hx hb dX5_year_9 ?_
  obtain ⟨g1, hf⟩ := hf
  refine hm_ast6 C M g1 dX5_year_10 (fun H locs M => ?_)
  refine lv_iconst (v := 0) hx hb dX5_year_11 rfl ?_
  refine lv_istore_n (lv' := [(1, .int 0), (0, .ref o)]) hx hb dX5_year_12 rfl hl (by decide) rfl (fun ls hl => ?_)
  obtain ⟨nn, hf⟩ := hf
  exact B13 nn 0 (hm_sA σ 6 100 ((hm_gA σ 6 100) + 1)) _ _ _ M (lv_sub hl [1, 0] rfl) hf
def hw_goesOn_b2 : Nat → Int32 → Int32 → hm_S → (Int32 → hm_S → Prop) → Prop
  | 0, _, _, _, _ => False
  | n2 + 1, v1_2, v2_2, σ2, Q => (v1_2 ≤ v2_2 → Q v2_2 σ2) ∧ (¬ v1_2 ≤ v2_2 → vp_in 100 346 ∧ ((199 ≤ (hm_gA σ2 6 100) → Q v2_2 σ2) ∧ (¬ 199 ≤ (hm_gA σ2 6 100) → hw_year  σ2 (fun σ_21 => (hw_goesOn_b2  n2 v1_2 (v2_2 + 1) σ_21 Q)))))
def hw_goesOn (a1 : Int32) (σ : hm_S) (Q : Int32 → hm_S → Prop) : Prop := ∃ n, hw_goesOn_b2  n a1 0 σ Q
set_option maxHeartbeats 4000000 in
set_option maxRecDepth 100000 in
theorem hk_goesOn (l : Launch) (D : va_G) (dA : Nat → ClassId) (o : Nat) (b : Nat → Nat) (hB : hm_D dA o b) (a1 : Int32) (σ : hm_S) {Q : Int32 → hm_S → Prop} (hf : hw_goesOn a1 σ Q) : Met l yX5_goesOn (ws_ yX5_goesOn cX5_goesOn 3 (some .int)) (hb_R 8 185) (va_Pc [.ref o, .int a1] (hm_U D dA o b σ)) (va_Qi Q (hm_U D dA o b) (hm_A o b)) 0 0 (hm_A o b) := by
  refine hm_Mi hB (LV := [(0, .ref o), (1, .int a1)]) (by decide) rfl (Nat.le_of_ble_eq_true rfl) (fun p e s m args below meth c ls QQ C M hl hret => ?_)
  have hx := C.1.1
  have hb := C.1.2.1
  have B2 : ∀ (n2 : Nat) (v1_2 : Int32) (v2_2 : Int32) (σ2 : hm_S) (H : Heap) (locs : List Loc) (ls : Array Slot), hm_M D dA o b s.heap σ2 H locs → lv_has ls 3 [(0, .ref o), (1, .int v1_2), (2, .int v2_2)] → hw_goesOn_b2  n2 v1_2 v2_2 σ2 Q → W p l e (hb_R 8 185) s m args below meth c H locs 0 0 QQ (F0 m 2 ls []) := by
    intro n2
    induction n2 with
    | zero => intro v1_2 v2_2 σ2 H locs ls M hl hf; exact hf.elim
    | succ n2 ih2 =>
      intro v1_2 v2_2 σ2 H locs ls M hl hf
      refine lv_iload_n hx hb dX5_goesOn_2 rfl (lv_at hl 2 rfl) ?_
      refine lv_iload_n hx hb dX5_goesOn_3 rfl (lv_at hl 1 rfl) ?_
      obtain ⟨hft, hff⟩ := hf
      refine lv_icmp_ge (tgt := 30) hx hb dX5_goesOn_4 (by decide) (fun c1 => ?_) (fun c1 => ?_)
      · have hf := hft c1
        refine lv_iload_n hx hb dX5_goesOn_30 rfl (lv_at hl 2 rfl) ?_
        exact hret _ _ _ _ _ _ dX5_goesOn_31 M hf
      · have hf := hff c1
        refine lv_aload_n hx hb dX5_goesOn_7 rfl (lv_at hl 0 rfl) ?_
        refine hm_get C M 6 (by decide) q2073 (v := .ref (b 6)) rfl dX5_goesOn_8 ?_
        refine lv_bipush (v := 100) hx hb dX5_goesOn_11 rfl ?_
        obtain ⟨g1, hf⟩ := hf
        refine hm_ald6 C M g1 dX5_goesOn_13 ?_
        refine lv_sipush (v := 199) hx hb dX5_goesOn_14 rfl ?_
        obtain ⟨hft, hff⟩ := hf
        refine lv_icmp_ge (tgt := 30) hx hb dX5_goesOn_17 (by decide) (fun c1 => ?_) (fun c1 => ?_)
        · have hf := hft c1
          refine lv_iload_n hx hb dX5_goesOn_30 rfl (lv_at hl 2 rfl) ?_
          exact hret _ _ _ _ _ _ dX5_goesOn_31 M hf
        · have hf := hff c1
          refine lv_aload_n hx hb dX5_goesOn_20 rfl (lv_at hl 0 rfl) ?_
          refine hm_cv C M hl.1 (As := []) (rest := []) (hk_year l D dA o b hB  σ2 hf) (n := 0) q2488 q2490 qs97 q140 q2491 (by decide +kernel) rfl ⟨Nat.le_of_ble_eq_true rfl, Nat.le_of_ble_eq_true rfl⟩ rfl (Nat.le_of_ble_eq_true rfl) dX5_goesOn_21 (fun σ_21 H locs hf M => ?_)
          refine lv_iinc (v := v2_2 + 1) (lv' := [(2, .int (v2_2 + 1)), (0, .ref o), (1, .int v1_2)]) hx hb dX5_goesOn_24 hl (k := 2) rfl rfl (by decide) rfl (fun ls hl => ?_)
          refine lv_goto (tgt := 2) hx hb dX5_goesOn_27 (by decide) ?_
          exact ih2 v1_2 (v2_2 + 1) σ_21 _ _ _ M (lv_sub hl [1, 2, 0] rfl) hf
  refine lv_iconst (v := 0) hx hb dX5_goesOn_0 rfl ?_
  refine lv_istore_n (lv' := [(2, .int 0), (0, .ref o), (1, .int a1)]) hx hb dX5_goesOn_1 rfl hl (by decide) rfl (fun ls hl => ?_)
  obtain ⟨nn, hf⟩ := hf
  exact B2 nn a1 0 σ _ _ _ M (lv_sub hl [1, 2, 0] rfl) hf
def hw_years (a1 : Int32) (σ : hm_S) (Q : Int32 → hm_S → Prop) : Prop := hw_isIn a1 1 60 (hm_sI σ 0 0) (fun r_9 σ_9 => ((¬ r_9 = 0 → vp_in 100 346 ∧ ((¬ (hm_gA σ_9 6 100) = 199 → hw_stores  σ_9 (fun σ_33 => (hw_goesOn a1 σ_33 (fun r_38 σ_38 => (Q r_38 σ_38))))) ∧ ((hm_gA σ_9 6 100) = 199 → Q 0 σ_9))) ∧ (r_9 = 0 → Q (-1) σ_9)))
set_option maxHeartbeats 4000000 in
set_option maxRecDepth 100000 in
theorem hk_years (l : Launch) (D : va_G) (dA : Nat → ClassId) (o : Nat) (b : Nat → Nat) (hB : hm_D dA o b) (a1 : Int32) (σ : hm_S) {Q : Int32 → hm_S → Prop} (hf : hw_years a1 σ Q) : Met l yX5_years (ws_ yX5_years cX5_years 2 (some .int)) (hb_R 9 207) (va_Pc [.ref o, .int a1] (hm_U D dA o b σ)) (va_Qi Q (hm_U D dA o b) (hm_A o b)) 0 0 (hm_A o b) := by
  refine hm_Mi hB (LV := [(0, .ref o), (1, .int a1)]) (by decide) rfl (Nat.le_of_ble_eq_true rfl) (fun p e s m args below meth c ls QQ C M hl hret => ?_)
  have hx := C.1.1
  have hb := C.1.2.1
  refine lv_aload_n hx hb dX5_years_0 rfl (lv_at hl 0 rfl) ?_
  refine lv_iconst (v := 0) hx hb dX5_years_1 rfl ?_
  refine hm_put0 C M q2067 dX5_years_2 (fun H locs M => ?_)
  refine lv_iload_n hx hb dX5_years_5 rfl (lv_at hl 1 rfl) ?_
  refine lv_iconst (v := 1) hx hb dX5_years_6 rfl ?_
  refine lv_bipush (v := 60) hx hb dX5_years_7 rfl ?_
  refine hm_csi C M hl.1 (As := [.int a1, .int 1, .int 60]) (rest := []) (hk_isIn l D dA o b hB a1 1 60 (hm_sI σ 0 0) hf) (n := 3) q2280 q2281 q140 q2282 (by decide +kernel) rfl ⟨Nat.le_of_ble_eq_true rfl, Nat.le_of_ble_eq_true rfl⟩ rfl (Nat.le_of_ble_eq_true rfl) dX5_years_9 (fun r_9 σ_9 H locs hf M => ?_)
  obtain ⟨hft, hff⟩ := hf
  refine lv_if_ne (tgt := 17) hx hb dX5_years_12 (by decide) (fun c1 => ?_) (fun c1 => ?_)
  · have hf := hft c1
    refine lv_aload_n hx hb dX5_years_17 rfl (lv_at hl 0 rfl) ?_
    refine hm_get C M 6 (by decide) q2073 (v := .ref (b 6)) rfl dX5_years_18 ?_
    refine lv_bipush (v := 100) hx hb dX5_years_21 rfl ?_
    obtain ⟨g1, hf⟩ := hf
    refine hm_ald6 C M g1 dX5_years_23 ?_
    refine lv_sipush (v := 199) hx hb dX5_years_24 rfl ?_
    obtain ⟨hft, hff⟩ := hf
    refine lv_icmp_ne (tgt := 32) hx hb dX5_years_27 (by decide) (fun c1 => ?_) (fun c1 => ?_)
    · have hf := hft c1
      refine lv_aload_n hx hb dX5_years_32 rfl (lv_at hl 0 rfl) ?_
      refine hm_cv C M hl.1 (As := []) (rest := []) (hk_stores l D dA o b hB  σ_9 hf) (n := 0) q2393 q2395 qs80 q140 q2396 (by decide +kernel) rfl ⟨Nat.le_of_ble_eq_true rfl, Nat.le_of_ble_eq_true rfl⟩ rfl (Nat.le_of_ble_eq_true rfl) dX5_years_33 (fun σ_33 H locs hf M => ?_)
      refine lv_aload_n hx hb dX5_years_36 rfl (lv_at hl 0 rfl) ?_
      refine lv_iload_n hx hb dX5_years_37 rfl (lv_at hl 1 rfl) ?_
      refine hm_ci C M hl.1 (As := [.int a1]) (rest := []) (hk_goesOn l D dA o b hB a1 σ_33 hf) (n := 1) q2484 q2486 qs96 q140 q2487 (by decide +kernel) rfl ⟨Nat.le_of_ble_eq_true rfl, Nat.le_of_ble_eq_true rfl⟩ rfl (Nat.le_of_ble_eq_true rfl) dX5_years_38 (fun r_38 σ_38 H locs hf M => ?_)
      exact hret _ _ _ _ _ _ dX5_years_41 M hf
    · have hf := hff c1
      refine lv_iconst (v := 0) hx hb dX5_years_30 rfl ?_
      exact hret _ _ _ _ _ _ dX5_years_31 M hf
  · have hf := hff c1
    refine lv_iconst (v := (-1)) hx hb dX5_years_15 rfl ?_
    exact hret _ _ _ _ _ _ dX5_years_16 M hf
def hw_undo_b26 : Nat → Int32 → hm_S → (Int32 → hm_S → Prop) → Prop
  | 0, _, _, _ => False
  | n26 + 1, v1_26, σ26, Q => (65 ≤ v1_26 → Q (hm_gI σ26 26) σ26) ∧ (¬ 65 ≤ v1_26 → vp_in ((65 * (hm_gI σ26 26)) + v1_26) 520 ∧ (vp_in (100 + v1_26) 346 ∧ (hw_undo_b26  n26 (v1_26 + 1) (hm_sA σ26 6 (100 + v1_26) (hm_gA σ26 24 ((65 * (hm_gI σ26 26)) + v1_26))) Q)))
def hw_undo  (σ : hm_S) (Q : Int32 → hm_S → Prop) : Prop := (¬ (hm_gI (hm_sI σ 0 0) 26) = 0 → ∃ n, hw_undo_b26  n 0 (hm_sI (hm_sI σ 0 0) 26 ((hm_gI (hm_sI σ 0 0) 26) - 1)) Q) ∧ ((hm_gI (hm_sI σ 0 0) 26) = 0 → Q (-1) (hm_sI σ 0 0))
set_option maxHeartbeats 4000000 in
set_option maxRecDepth 100000 in
theorem hk_undo (l : Launch) (D : va_G) (dA : Nat → ClassId) (o : Nat) (b : Nat → Nat) (hB : hm_D dA o b)  (σ : hm_S) {Q : Int32 → hm_S → Prop} (hf : hw_undo  σ Q) : Met l yX5_undo (ws_ yX5_undo cX5_undo 2 (some .int)) (hb_R 0 0) (va_Pc [.ref o] (hm_U D dA o b σ)) (va_Qi Q (hm_U D dA o b) (hm_A o b)) 0 0 (hm_A o b) := by
  refine hm_Mi hB (LV := [(0, .ref o)]) (by decide) rfl (Nat.le_of_ble_eq_true rfl) (fun p e s m args below meth c ls QQ C M hl hret => ?_)
  have hx := C.1.1
  have hb := C.1.2.1
  have B26 : ∀ (n26 : Nat) (v1_26 : Int32) (σ26 : hm_S) (H : Heap) (locs : List Loc) (ls : Array Slot), hm_M D dA o b s.heap σ26 H locs → lv_has ls 2 [(0, .ref o), (1, .int v1_26)] → hw_undo_b26  n26 v1_26 σ26 Q → W p l e (hb_R 0 0) s m args below meth c H locs 0 0 QQ (F0 m 26 ls []) := by
    intro n26
    induction n26 with
    | zero => intro v1_26 σ26 H locs ls M hl hf; exact hf.elim
    | succ n26 ih26 =>
      intro v1_26 σ26 H locs ls M hl hf
      refine lv_iload_n hx hb dX5_undo_26 rfl (lv_at hl 1 rfl) ?_
      refine lv_bipush (v := 65) hx hb dX5_undo_27 rfl ?_
      obtain ⟨hft, hff⟩ := hf
      refine lv_icmp_ge (tgt := 61) hx hb dX5_undo_29 (by decide) (fun c1 => ?_) (fun c1 => ?_)
      · have hf := hft c1
        refine lv_aload_n hx hb dX5_undo_61 rfl (lv_at hl 0 rfl) ?_
        refine hm_get C M 26 (by decide) q2093 (v := .int (hm_gI σ26 26)) rfl dX5_undo_62 ?_
        exact hret _ _ _ _ _ _ dX5_undo_65 M hf
      · have hf := hff c1
        refine lv_aload_n hx hb dX5_undo_32 rfl (lv_at hl 0 rfl) ?_
        refine hm_get C M 6 (by decide) q2073 (v := .ref (b 6)) rfl dX5_undo_33 ?_
        refine lv_bipush (v := 100) hx hb dX5_undo_36 rfl ?_
        refine lv_iload_n hx hb dX5_undo_38 rfl (lv_at hl 1 rfl) ?_
        refine lv_iadd hx hb dX5_undo_39 ?_
        refine lv_aload_n hx hb dX5_undo_40 rfl (lv_at hl 0 rfl) ?_
        refine hm_get C M 24 (by decide) q2091 (v := .ref (b 24)) rfl dX5_undo_41 ?_
        refine lv_bipush (v := 65) hx hb dX5_undo_44 rfl ?_
        refine lv_aload_n hx hb dX5_undo_46 rfl (lv_at hl 0 rfl) ?_
        refine hm_get C M 26 (by decide) q2093 (v := .int (hm_gI σ26 26)) rfl dX5_undo_47 ?_
        refine lv_imul hx hb dX5_undo_50 ?_
        refine lv_iload_n hx hb dX5_undo_51 rfl (lv_at hl 1 rfl) ?_
        refine lv_iadd hx hb dX5_undo_52 ?_
        obtain ⟨g1, hf⟩ := hf
        refine hm_ald24 C M g1 dX5_undo_53 ?_
        obtain ⟨g1, hf⟩ := hf
        refine hm_ast6 C M g1 dX5_undo_54 (fun H locs M => ?_)
        refine lv_iinc (v := v1_26 + 1) (lv' := [(1, .int (v1_26 + 1)), (0, .ref o)]) hx hb dX5_undo_55 hl (k := 1) rfl rfl (by decide) rfl (fun ls hl => ?_)
        refine lv_goto (tgt := 26) hx hb dX5_undo_58 (by decide) ?_
        exact ih26 (v1_26 + 1) (hm_sA σ26 6 (100 + v1_26) (hm_gA σ26 24 ((65 * (hm_gI σ26 26)) + v1_26))) _ _ _ M (lv_sub hl [1, 0] rfl) hf
  refine lv_aload_n hx hb dX5_undo_0 rfl (lv_at hl 0 rfl) ?_
  refine lv_iconst (v := 0) hx hb dX5_undo_1 rfl ?_
  refine hm_put0 C M q2067 dX5_undo_2 (fun H locs M => ?_)
  refine lv_aload_n hx hb dX5_undo_5 rfl (lv_at hl 0 rfl) ?_
  refine hm_get C M 26 (by decide) q2093 (v := .int (hm_gI (hm_sI σ 0 0) 26)) rfl dX5_undo_6 ?_
  obtain ⟨hft, hff⟩ := hf
  refine lv_if_ne (tgt := 14) hx hb dX5_undo_9 (by decide) (fun c1 => ?_) (fun c1 => ?_)
  · have hf := hft c1
    refine lv_aload_n hx hb dX5_undo_14 rfl (lv_at hl 0 rfl) ?_
    refine lv_dup hx hb dX5_undo_15 rfl ?_
    refine hm_get C M 26 (by decide) q2093 (v := .int (hm_gI (hm_sI σ 0 0) 26)) rfl dX5_undo_16 ?_
    refine lv_iconst (v := 1) hx hb dX5_undo_19 rfl ?_
    refine lv_isub hx hb dX5_undo_20 ?_
    refine hm_put26 C M q2093 dX5_undo_21 (fun H locs M => ?_)
    refine lv_iconst (v := 0) hx hb dX5_undo_24 rfl ?_
    refine lv_istore_n (lv' := [(1, .int 0), (0, .ref o)]) hx hb dX5_undo_25 rfl hl (by decide) rfl (fun ls hl => ?_)
    obtain ⟨nn, hf⟩ := hf
    exact B26 nn 0 (hm_sI (hm_sI σ 0 0) 26 ((hm_gI (hm_sI σ 0 0) 26) - 1)) _ _ _ M (lv_sub hl [1, 0] rfl) hf
  · have hf := hff c1
    refine lv_iconst (v := (-1)) hx hb dX5_undo_12 rfl ?_
    exact hret _ _ _ _ _ _ dX5_undo_13 M hf
