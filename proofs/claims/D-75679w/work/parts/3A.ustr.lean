set_option maxRecDepth 100000
def hw_J13_coder (g : hu_G) (o : Nat) (υ : hu_S) (Q : Int32 → hu_S → Prop) : Prop := ((1 : Int32) = 0 → narrow .byte (.int 1) = .int 1 ∧ Q 1 υ) ∧ (¬ (1 : Int32) = 0 → hu_gi g υ o 3 1 (fun x7 => (narrow .byte (.int x7) = .int x7 ∧ Q x7 υ)))
set_option maxHeartbeats 4000000 in
set_option maxRecDepth 100000 in
theorem hk_J13_coder (l : Launch) (g : hu_G) (o : Nat) {υ : hu_S} {Q : Int32 → hu_S → Prop} (hf : hw_J13_coder g o υ Q) : Met l yJ13_coder (ws_ yJ13_coder cJ13_coder 1 (some .byte)) (hu_R 0 0 υ.2.1 υ.2.2) (va_Pc [.ref o] (hu_U g υ)) (va_Qi Q (hu_B g) (hg_A g)) υ.2.1 υ.2.2 (hg_A g) := by
  refine hu_Mb (LV := [(0, .ref o)]) (by decide) rfl (Nat.le_of_ble_eq_true rfl) (fun p e s m args below meth c H locs cells slots ls QQ C M hin hl hret => ?_)
  have hx := C.1.1
  have hb := C.1.2.1
  unfold hw_J13_coder at hf
  refine va_gets hx hb M.2.2.2.2.1.2.1 M.2.2.1 C.1.2.2.2.1 (C.1.2.2.2.2 _ q801) (fun _ h => h) dJ13_coder_0 ?_
  obtain ⟨hft, hff⟩ := hf
  refine lv_if_eq (tgt := 13) hx hb dJ13_coder_3 (by decide) (fun c1 => ?_) (fun c1 => ?_)
  · have hf := hft c1
    refine lv_iconst (v := 1) hx hb dJ13_coder_13 rfl ?_
    exact hret _ _ _ _ _ _ _ _ dJ13_coder_14 M hf.1 hf.2
  · have hf := hff c1
    refine lv_aload_n hx hb dJ13_coder_6 rfl (lv_at hl 0 rfl) ?_
    obtain ⟨x7, e_7, hf⟩ := hf
    refine hu_get C M e_7 (CN := RJ13) (T := TJ13) (N := 4) rfl in_J13 (by decide) q816 dJ13_coder_7 ?_
    refine lv_goto (tgt := 14) hx hb dJ13_coder_10 (by decide) ?_
    exact hret _ _ _ _ _ _ _ _ dJ13_coder_14 M hf.1 hf.2
def hw_J13_length (g : hu_G) (o : Nat) (υ : hu_S) (Q : Int32 → hu_S → Prop) : Prop := hu_gr g υ o 3 0 (fun x1 => (hu_gl g υ x1 (fun n4 => (hu_k g υ o 3 ∧ (hu_c υ (hw_J13_coder g o) (fun r6 τ6 => (Q (n4 >>> (r6 &&& 31)) τ6)))))))
set_option maxHeartbeats 4000000 in
set_option maxRecDepth 100000 in
theorem hk_J13_length (l : Launch) (g : hu_G) (o : Nat) {υ : hu_S} {Q : Int32 → hu_S → Prop} (hf : hw_J13_length g o υ Q) : Met l yJ13_length (ws_ yJ13_length cJ13_length 1 (some .int)) (hu_R 1 20 υ.2.1 υ.2.2) (va_Pc [.ref o] (hu_U g υ)) (va_Qi Q (hu_B g) (hg_A g)) υ.2.1 υ.2.2 (hg_A g) := by
  refine hu_Mi (LV := [(0, .ref o)]) (by decide) rfl (Nat.le_of_ble_eq_true rfl) (fun p e s m args below meth c H locs cells slots ls QQ C M hin hl hret => ?_)
  have hx := C.1.1
  have hb := C.1.2.1
  unfold hw_J13_length at hf
  refine lv_aload_n hx hb dJ13_length_0 rfl (lv_at hl 0 rfl) ?_
  obtain ⟨x1, e_1, hf⟩ := hf
  refine hu_get C M e_1 (CN := RJ13) (T := TJ13) (N := 4) rfl in_J13 (by decide) q815 dJ13_length_1 ?_
  obtain ⟨nn_4, ff_4, e_4, hf⟩ := hf
  refine hu_blen C M e_4 dJ13_length_4 ?_
  generalize nI nn_4 = n4 at hf ⊢
  refine lv_aload_n hx hb dJ13_length_5 rfl (lv_at hl 0 rfl) ?_
  obtain ⟨g_6, hf⟩ := hf
  obtain ⟨cc_6, cs_6, h1_6, h2_6, hf⟩ := hf
  refine hu_ki M h1_6 h2_6 (hu_rV C M hl.1 (Nat.le_refl _) (Nat.le_refl _) h1_6 h2_6 g_6 rfl (As := []) (rest := [.int n4]) (n := 0) (hk_J13_coder l g o (υ := (υ.1, cc_6, cs_6)) hf) q919 q920 q921 q145 q922 rfl (by decide +kernel) rfl ⟨Nat.le_of_ble_eq_true rfl, Nat.le_of_ble_eq_true rfl⟩ rfl (Nat.le_of_ble_eq_true rfl) dJ13_length_6) (fun r6 u9 H locs hf M => ?_)
  generalize (u9.1, υ.2.1 - cc_6, υ.2.2 - cs_6) = τ6 at M hf
  generalize cells + cc_6 = cells at M ⊢
  generalize slots + cs_6 = slots at M ⊢
  refine lv_ishr hx hb dJ13_length_9 ?_
  exact hret _ _ _ _ _ _ _ _ dJ13_length_10 M hf
def hw_J13_isLatin1 (g : hu_G) (o : Nat) (υ : hu_S) (Q : Int32 → hu_S → Prop) : Prop := ((1 : Int32) = 0 → Q 0 υ) ∧ (¬ (1 : Int32) = 0 → hu_gi g υ o 3 1 (fun x7 => ((¬ x7 = 0 → Q 0 υ) ∧ (x7 = 0 → Q 1 υ))))
set_option maxHeartbeats 4000000 in
set_option maxRecDepth 100000 in
theorem hk_J13_isLatin1 (l : Launch) (g : hu_G) (o : Nat) {υ : hu_S} {Q : Int32 → hu_S → Prop} (hf : hw_J13_isLatin1 g o υ Q) : Met l yJ13_isLatin1 (ws_ yJ13_isLatin1 cJ13_isLatin1 1 (some .boolean)) (hu_R 0 0 υ.2.1 υ.2.2) (va_Pc [.ref o] (hu_U g υ)) (va_Qi Q (hu_B g) (hg_A g)) υ.2.1 υ.2.2 (hg_A g) := by
  refine hu_Mz (LV := [(0, .ref o)]) (by decide) rfl (Nat.le_of_ble_eq_true rfl) (fun p e s m args below meth c H locs cells slots ls QQ C M hin hl hret => ?_)
  have hx := C.1.1
  have hb := C.1.2.1
  unfold hw_J13_isLatin1 at hf
  refine va_gets hx hb M.2.2.2.2.1.2.1 M.2.2.1 C.1.2.2.2.1 (C.1.2.2.2.2 _ q801) (fun _ h => h) dJ13_isLatin1_0 ?_
  obtain ⟨hft, hff⟩ := hf
  refine lv_if_eq (tgt := 17) hx hb dJ13_isLatin1_3 (by decide) (fun c1 => ?_) (fun c1 => ?_)
  · have hf := hft c1
    refine lv_iconst (v := 0) hx hb dJ13_isLatin1_17 rfl ?_
    exact hret _ _ _ _ _ _ _ _ dJ13_isLatin1_18 M hb_B0 hf
  · have hf := hff c1
    refine lv_aload_n hx hb dJ13_isLatin1_6 rfl (lv_at hl 0 rfl) ?_
    obtain ⟨x7, e_7, hf⟩ := hf
    refine hu_get C M e_7 (CN := RJ13) (T := TJ13) (N := 4) rfl in_J13 (by decide) q816 dJ13_isLatin1_7 ?_
    obtain ⟨hft, hff⟩ := hf
    refine lv_if_ne (tgt := 17) hx hb dJ13_isLatin1_10 (by decide) (fun c1 => ?_) (fun c1 => ?_)
    · have hf := hft c1
      refine lv_iconst (v := 0) hx hb dJ13_isLatin1_17 rfl ?_
      exact hret _ _ _ _ _ _ _ _ dJ13_isLatin1_18 M hb_B0 hf
    · have hf := hff c1
      refine lv_iconst (v := 1) hx hb dJ13_isLatin1_13 rfl ?_
      refine lv_goto (tgt := 18) hx hb dJ13_isLatin1_14 (by decide) ?_
      exact hret _ _ _ _ _ _ _ _ dJ13_isLatin1_18 M hb_B1 hf
def hw_J11_isLatin1 (g : hu_G) (o : Nat) (υ : hu_S) (Q : Int32 → hu_S → Prop) : Prop := ((1 : Int32) = 0 → Q 0 υ) ∧ (¬ (1 : Int32) = 0 → hu_gi g υ o 2 1 (fun x7 => ((¬ x7 = 0 → Q 0 υ) ∧ (x7 = 0 → Q 1 υ))))
set_option maxHeartbeats 4000000 in
set_option maxRecDepth 100000 in
theorem hk_J11_isLatin1 (l : Launch) (g : hu_G) (o : Nat) {υ : hu_S} {Q : Int32 → hu_S → Prop} (hf : hw_J11_isLatin1 g o υ Q) : Met l yJ11_isLatin1 (ws_ yJ11_isLatin1 cJ11_isLatin1 1 (some .boolean)) (hu_R 0 0 υ.2.1 υ.2.2) (va_Pc [.ref o] (hu_U g υ)) (va_Qi Q (hu_B g) (hg_A g)) υ.2.1 υ.2.2 (hg_A g) := by
  refine hu_Mz (LV := [(0, .ref o)]) (by decide) rfl (Nat.le_of_ble_eq_true rfl) (fun p e s m args below meth c H locs cells slots ls QQ C M hin hl hret => ?_)
  have hx := C.1.1
  have hb := C.1.2.1
  unfold hw_J11_isLatin1 at hf
  refine va_gets hx hb M.2.2.2.2.1.2.1 M.2.2.1 C.1.2.2.2.1 (C.1.2.2.2.2 _ q650) (fun _ h => h) dJ11_isLatin1_0 ?_
  obtain ⟨hft, hff⟩ := hf
  refine lv_if_eq (tgt := 17) hx hb dJ11_isLatin1_3 (by decide) (fun c1 => ?_) (fun c1 => ?_)
  · have hf := hft c1
    refine lv_iconst (v := 0) hx hb dJ11_isLatin1_17 rfl ?_
    exact hret _ _ _ _ _ _ _ _ dJ11_isLatin1_18 M hb_B0 hf
  · have hf := hff c1
    refine lv_aload_n hx hb dJ11_isLatin1_6 rfl (lv_at hl 0 rfl) ?_
    obtain ⟨x7, e_7, hf⟩ := hf
    refine hu_get C M e_7 (CN := RJ12) (T := TJ12) (N := 4) rfl in_J12 (by decide) q660 dJ11_isLatin1_7 ?_
    obtain ⟨hft, hff⟩ := hf
    refine lv_if_ne (tgt := 17) hx hb dJ11_isLatin1_10 (by decide) (fun c1 => ?_) (fun c1 => ?_)
    · have hf := hft c1
      refine lv_iconst (v := 0) hx hb dJ11_isLatin1_17 rfl ?_
      exact hret _ _ _ _ _ _ _ _ dJ11_isLatin1_18 M hb_B0 hf
    · have hf := hff c1
      refine lv_iconst (v := 1) hx hb dJ11_isLatin1_13 rfl ?_
      refine lv_goto (tgt := 18) hx hb dJ11_isLatin1_14 (by decide) ?_
      exact hret _ _ _ _ _ _ _ _ dJ11_isLatin1_18 M hb_B1 hf
def hw_J17_canEncode (g : hu_G) (a0 : Int32) (υ : hu_S) (Q : Int32 → hu_S → Prop) : Prop := (255 < a0 → Q 0 υ) ∧ (¬ 255 < a0 → Q 1 υ)
set_option maxHeartbeats 4000000 in
set_option maxRecDepth 100000 in
theorem hk_J17_canEncode (l : Launch) (g : hu_G) (a0 : Int32) {υ : hu_S} {Q : Int32 → hu_S → Prop} (hf : hw_J17_canEncode g a0 υ Q) : Met l yJ17_canEncode (ws_ yJ17_canEncode cJ17_canEncode 1 (some .boolean)) (hu_R 0 0 υ.2.1 υ.2.2) (va_Pc [.int a0] (hu_U g υ)) (va_Qi Q (hu_B g) (hg_A g)) υ.2.1 υ.2.2 (hg_A g) := by
  refine hu_Mz (LV := [(0, .int a0)]) (by decide) rfl (Nat.le_of_ble_eq_true rfl) (fun p e s m args below meth c H locs cells slots ls QQ C M hin hl hret => ?_)
  have hx := C.1.1
  have hb := C.1.2.1
  unfold hw_J17_canEncode at hf
  refine lv_iload_n hx hb dJ17_canEncode_0 rfl (lv_at hl 0 rfl) ?_
  refine lv_sipush (v := 255) hx hb dJ17_canEncode_1 rfl ?_
  obtain ⟨hft, hff⟩ := hf
  refine lv_icmp_gt (tgt := 11) hx hb dJ17_canEncode_4 (by decide) (fun c1 => ?_) (fun c1 => ?_)
  · have hf := hft c1
    refine lv_iconst (v := 0) hx hb dJ17_canEncode_11 rfl ?_
    exact hret _ _ _ _ _ _ _ _ dJ17_canEncode_12 M hb_B0 hf
  · have hf := hff c1
    refine lv_iconst (v := 1) hx hb dJ17_canEncode_7 rfl ?_
    refine lv_goto (tgt := 12) hx hb dJ17_canEncode_8 (by decide) ?_
    exact hret _ _ _ _ _ _ _ _ dJ17_canEncode_12 M hb_B1 hf
def hw_J17_equals_b9 (g : hu_G) : Nat → Nat → Nat → Int32 → hu_S → (Int32 → hu_S → Prop) → Prop
  | 0, _, _, _, _, _ => False
  | n9 + 1, v0_9, v1_9, v2_9, σ9, Q => hu_gl g σ9 v0_9 (fun n11 => ((n11 ≤ v2_9 → Q 1 σ9) ∧ (¬ n11 ≤ v2_9 → hu_gb g σ9 v0_9 v2_9 (fun b17 => (hu_gb g σ9 v1_9 v2_9 (fun b20 => ((b17 = b20 → hw_J17_equals_b9 g  n9 v0_9 v1_9 (v2_9 + 1) σ9 Q) ∧ (¬ b17 = b20 → Q 0 σ9))))))))
def hw_J17_equals (g : hu_G) (a0 : Nat) (a1 : Nat) (υ : hu_S) (Q : Int32 → hu_S → Prop) : Prop := hu_gl g υ a0 (fun n1 => (hu_gl g υ a1 (fun n3 => ((¬ n1 = n3 → Q 0 υ) ∧ (n1 = n3 → ∃ n, hw_J17_equals_b9 g  n a0 a1 0 υ Q)))))
set_option maxHeartbeats 4000000 in
set_option maxRecDepth 100000 in
theorem hk_J17_equals (l : Launch) (g : hu_G) (a0 : Nat) (a1 : Nat) {υ : hu_S} {Q : Int32 → hu_S → Prop} (hf : hw_J17_equals g a0 a1 υ Q) : Met l yJ17_equals (ws_ yJ17_equals cJ17_equals 3 (some .boolean)) (hu_R 0 0 υ.2.1 υ.2.2) (va_Pc [.ref a0, .ref a1] (hu_U g υ)) (va_Qi Q (hu_B g) (hg_A g)) υ.2.1 υ.2.2 (hg_A g) := by
  refine hu_Mz (LV := [(0, .ref a0), (1, .ref a1)]) (by decide) rfl (Nat.le_of_ble_eq_true rfl) (fun p e s m args below meth c H locs cells slots ls QQ C M hin hl hret => ?_)
  have hx := C.1.1
  have hb := C.1.2.1
  unfold hw_J17_equals at hf
  have B9 : ∀ (n9 : Nat) (v0_9 : Nat) (v1_9 : Nat) (v2_9 : Int32) (σ9 : hu_S) (H : Heap) (locs : List Loc) (cells slots : Nat) (ls : Array Slot), hu_M g s υ.2.1 υ.2.2 σ9 H locs cells slots → lv_has ls 3 [(0, .ref v0_9), (1, .ref v1_9), (2, .int v2_9)] → hw_J17_equals_b9 g  n9 v0_9 v1_9 v2_9 σ9 Q → W p l e (hu_R 0 0 υ.2.1 υ.2.2) s m args below meth c H locs cells slots QQ (F0 m 9 ls []) := by
    intro n9
    induction n9 with
    | zero => intro v0_9 v1_9 v2_9 σ9 H locs cells slots ls M hl hf; exact hf.elim
    | succ n9 ih9 =>
      intro v0_9 v1_9 v2_9 σ9 H locs cells slots ls M hl hf
      refine lv_iload_n hx hb dJ17_equals_9 rfl (lv_at hl 2 rfl) ?_
      refine lv_aload_n hx hb dJ17_equals_10 rfl (lv_at hl 0 rfl) ?_
      obtain ⟨nn_11, ff_11, e_11, hf⟩ := hf
      refine hu_blen C M e_11 dJ17_equals_11 ?_
      generalize nI nn_11 = n11 at hf ⊢
      obtain ⟨hft, hff⟩ := hf
      refine lv_icmp_ge (tgt := 32) hx hb dJ17_equals_12 (by decide) (fun c1 => ?_) (fun c1 => ?_)
      · have hf := hft c1
        refine lv_iconst (v := 1) hx hb dJ17_equals_32 rfl ?_
        exact hret _ _ _ _ _ _ _ _ dJ17_equals_33 M hb_B1 hf
      · have hf := hff c1
        refine lv_aload_n hx hb dJ17_equals_15 rfl (lv_at hl 0 rfl) ?_
        refine lv_iload_n hx hb dJ17_equals_16 rfl (lv_at hl 2 rfl) ?_
        obtain ⟨nn_17, ff_17, e_17, i_17, hf⟩ := hf
        refine hu_bald C M e_17 i_17 dJ17_equals_17 ?_
        generalize ff_17 (Int32.toNatClampNeg v2_9) = b17 at hf ⊢
        refine lv_aload_n hx hb dJ17_equals_18 rfl (lv_at hl 1 rfl) ?_
        refine lv_iload_n hx hb dJ17_equals_19 rfl (lv_at hl 2 rfl) ?_
        obtain ⟨nn_20, ff_20, e_20, i_20, hf⟩ := hf
        refine hu_bald C M e_20 i_20 dJ17_equals_20 ?_
        generalize ff_20 (Int32.toNatClampNeg v2_9) = b20 at hf ⊢
        obtain ⟨hft, hff⟩ := hf
        refine lv_icmp_eq (tgt := 26) hx hb dJ17_equals_21 (by decide) (fun c1 => ?_) (fun c1 => ?_)
        · have hf := hft c1
          refine lv_iinc (v := v2_9 + 1) (lv' := [(2, .int (v2_9 + 1)), (0, .ref v0_9), (1, .ref v1_9)]) hx hb dJ17_equals_26 hl (k := 2) rfl rfl (by decide) rfl (fun ls hl => ?_)
          refine lv_goto (tgt := 9) hx hb dJ17_equals_29 (by decide) ?_
          exact ih9 v0_9 v1_9 (v2_9 + 1) σ9 _ _ _ _ _ M (lv_sub hl [1, 2, 0] rfl) hf
        · have hf := hff c1
          refine lv_iconst (v := 0) hx hb dJ17_equals_24 rfl ?_
          exact hret _ _ _ _ _ _ _ _ dJ17_equals_25 M hb_B0 hf
  refine lv_aload_n hx hb dJ17_equals_0 rfl (lv_at hl 0 rfl) ?_
  obtain ⟨nn_1, ff_1, e_1, hf⟩ := hf
  refine hu_blen C M e_1 dJ17_equals_1 ?_
  generalize nI nn_1 = n1 at hf ⊢
  refine lv_aload_n hx hb dJ17_equals_2 rfl (lv_at hl 1 rfl) ?_
  obtain ⟨nn_3, ff_3, e_3, hf⟩ := hf
  refine hu_blen C M e_3 dJ17_equals_3 ?_
  generalize nI nn_3 = n3 at hf ⊢
  obtain ⟨hft, hff⟩ := hf
  refine lv_icmp_ne (tgt := 34) hx hb dJ17_equals_4 (by decide) (fun c1 => ?_) (fun c1 => ?_)
  · have hf := hft c1
    refine lv_iconst (v := 0) hx hb dJ17_equals_34 rfl ?_
    exact hret _ _ _ _ _ _ _ _ dJ17_equals_35 M hb_B0 hf
  · have hf := hff c1
    refine lv_iconst (v := 0) hx hb dJ17_equals_7 rfl ?_
    refine lv_istore_n (lv' := [(2, .int 0), (0, .ref a0), (1, .ref a1)]) hx hb dJ17_equals_8 rfl hl (by decide) rfl (fun ls hl => ?_)
    obtain ⟨nn, hf⟩ := hf
    exact B9 nn a0 a1 0 υ _ _ _ _ _ M (lv_sub hl [1, 2, 0] rfl) hf
def hw_J17_indexOf_2_b103 (g : hu_G) (k14 : Nat → Nat → Int32 → Int32 → Int32 → Int32 → hu_S → Prop) (v0_103 : Nat) (v2_103 : Nat) (v3_103 : Int32) (v5_103 : Int32) (v6_103 : Int32) (v7_103 : Int32) (v8_103 : Int32) (v9_103 : Int32) (σ103 : hu_S) (Q : Int32 → hu_S → Prop) : Prop := (¬ v8_103 = v9_103 → k14 v0_103 v2_103 v3_103 v5_103 v6_103 (v7_103 + 1) σ103) ∧ (v8_103 = v9_103 → Q v7_103 σ103)
def hw_J17_indexOf_2_b76 (g : hu_G) (k14 : Nat → Nat → Int32 → Int32 → Int32 → Int32 → hu_S → Prop) : Nat → Nat → Nat → Int32 → Int32 → Int32 → Int32 → Int32 → Int32 → Int32 → hu_S → (Int32 → hu_S → Prop) → Prop
  | 0, _, _, _, _, _, _, _, _, _, _, _ => False
  | n76 + 1, v0_76, v2_76, v3_76, v5_76, v6_76, v7_76, v8_76, v9_76, v10_76, σ76, Q => (v9_76 ≤ v8_76 → hw_J17_indexOf_2_b103 g k14 v0_76 v2_76 v3_76 v5_76 v6_76 v7_76 v8_76 v9_76 σ76 Q) ∧ (¬ v9_76 ≤ v8_76 → hu_gb g σ76 v0_76 v8_76 (fun b86 => (hu_gb g σ76 v2_76 v10_76 (fun b90 => ((¬ b86 = b90 → hw_J17_indexOf_2_b103 g k14 v0_76 v2_76 v3_76 v5_76 v6_76 v7_76 v8_76 v9_76 σ76 Q) ∧ (b86 = b90 → hw_J17_indexOf_2_b76 g k14 n76 v0_76 v2_76 v3_76 v5_76 v6_76 v7_76 (v8_76 + 1) v9_76 (v10_76 + 1) σ76 Q))))))
def hw_J17_indexOf_2_b52 (g : hu_G) (k14 : Nat → Nat → Int32 → Int32 → Int32 → Int32 → hu_S → Prop) (v0_52 : Nat) (v2_52 : Nat) (v3_52 : Int32) (v5_52 : Int32) (v6_52 : Int32) (v7_52 : Int32) (σ52 : hu_S) (Q : Int32 → hu_S → Prop) : Prop := (v6_52 < v7_52 → k14 v0_52 v2_52 v3_52 v5_52 v6_52 (v7_52 + 1) σ52) ∧ (¬ v6_52 < v7_52 → ∃ n, hw_J17_indexOf_2_b76 g k14 n v0_52 v2_52 v3_52 v5_52 v6_52 v7_52 (v7_52 + 1) (((v7_52 + 1) + v3_52) - 1) 1 σ52 Q)
def hw_J17_indexOf_2_b30 (g : hu_G) (k14 : Nat → Nat → Int32 → Int32 → Int32 → Int32 → hu_S → Prop) : Nat → Nat → Nat → Int32 → Int32 → Int32 → Int32 → hu_S → (Int32 → hu_S → Prop) → Prop
  | 0, _, _, _, _, _, _, _, _ => False
  | n30 + 1, v0_30, v2_30, v3_30, v5_30, v6_30, v7_30, σ30, Q => (v6_30 < (v7_30 + 1) → hw_J17_indexOf_2_b52 g k14 v0_30 v2_30 v3_30 v5_30 v6_30 (v7_30 + 1) σ30 Q) ∧ (¬ v6_30 < (v7_30 + 1) → hu_gb g σ30 v0_30 (v7_30 + 1) (fun b43 => ((b43 = v5_30 → hw_J17_indexOf_2_b52 g k14 v0_30 v2_30 v3_30 v5_30 v6_30 (v7_30 + 1) σ30 Q) ∧ (¬ b43 = v5_30 → hw_J17_indexOf_2_b30 g k14 n30 v0_30 v2_30 v3_30 v5_30 v6_30 (v7_30 + 1) σ30 Q))))
def hw_J17_indexOf_2_b14 (g : hu_G) : Nat → Nat → Nat → Int32 → Int32 → Int32 → Int32 → hu_S → (Int32 → hu_S → Prop) → Prop
  | 0, _, _, _, _, _, _, _, _ => False
  | n14 + 1, v0_14, v2_14, v3_14, v5_14, v6_14, v7_14, σ14, Q => (v6_14 < v7_14 → Q (-1) σ14) ∧ (¬ v6_14 < v7_14 → hu_gb g σ14 v0_14 v7_14 (fun b24 => ((b24 = v5_14 → hw_J17_indexOf_2_b52 g (fun (u0 : Nat) (u1 : Nat) (u2 : Int32) (u3 : Int32) (u4 : Int32) (u5 : Int32) (τ : hu_S) => hw_J17_indexOf_2_b14 g  n14 u0 u1 u2 u3 u4 u5 τ Q) v0_14 v2_14 v3_14 v5_14 v6_14 v7_14 σ14 Q) ∧ (¬ b24 = v5_14 → ∃ n, hw_J17_indexOf_2_b30 g (fun (u0 : Nat) (u1 : Nat) (u2 : Int32) (u3 : Int32) (u4 : Int32) (u5 : Int32) (τ : hu_S) => hw_J17_indexOf_2_b14 g  n14 u0 u1 u2 u3 u4 u5 τ Q) n v0_14 v2_14 v3_14 v5_14 v6_14 v7_14 σ14 Q))))
def hw_J17_indexOf_2 (g : hu_G) (a0 : Nat) (a1 : Int32) (a2 : Nat) (a3 : Int32) (a4 : Int32) (υ : hu_S) (Q : Int32 → hu_S → Prop) : Prop := hu_gb g υ a2 0 (fun b2 => (∃ n, hw_J17_indexOf_2_b14 g  n a0 a2 a3 b2 (a1 - a3) a4 υ Q))
set_option maxHeartbeats 4000000 in
set_option maxRecDepth 100000 in
theorem hk_J17_indexOf_2 (l : Launch) (g : hu_G) (a0 : Nat) (a1 : Int32) (a2 : Nat) (a3 : Int32) (a4 : Int32) {υ : hu_S} {Q : Int32 → hu_S → Prop} (hf : hw_J17_indexOf_2 g a0 a1 a2 a3 a4 υ Q) : Met l yJ17_indexOf_2 (ws_ yJ17_indexOf_2 cJ17_indexOf_2 11 (some .int)) (hu_R 0 0 υ.2.1 υ.2.2) (va_Pc [.ref a0, .int a1, .ref a2, .int a3, .int a4] (hu_U g υ)) (va_Qi Q (hu_B g) (hg_A g)) υ.2.1 υ.2.2 (hg_A g) := by
  refine hu_Mi (LV := [(0, .ref a0), (1, .int a1), (2, .ref a2), (3, .int a3), (4, .int a4)]) (by decide) rfl (Nat.le_of_ble_eq_true rfl) (fun p e s m args below meth c H locs cells slots ls QQ C M hin hl hret => ?_)
  have hx := C.1.1
  have hb := C.1.2.1
  unfold hw_J17_indexOf_2 at hf
  have B14 : ∀ (n14 : Nat) (v0_14 : Nat) (v2_14 : Nat) (v3_14 : Int32) (v5_14 : Int32) (v6_14 : Int32) (v7_14 : Int32) (σ14 : hu_S) (H : Heap) (locs : List Loc) (cells slots : Nat) (ls : Array Slot), hu_M g s υ.2.1 υ.2.2 σ14 H locs cells slots → lv_has ls 11 [(0, .ref v0_14), (2, .ref v2_14), (3, .int v3_14), (5, .int v5_14), (6, .int v6_14), (7, .int v7_14)] → hw_J17_indexOf_2_b14 g  n14 v0_14 v2_14 v3_14 v5_14 v6_14 v7_14 σ14 Q → W p l e (hu_R 0 0 υ.2.1 υ.2.2) s m args below meth c H locs cells slots QQ (F0 m 14 ls []) := by
    intro n14
    induction n14 with
    | zero => intro v0_14 v2_14 v3_14 v5_14 v6_14 v7_14 σ14 H locs cells slots ls M hl hf; exact hf.elim
    | succ n14 ih14 =>
      have B103 : ∀ (v0_103 : Nat) (v2_103 : Nat) (v3_103 : Int32) (v5_103 : Int32) (v6_103 : Int32) (v7_103 : Int32) (v8_103 : Int32) (v9_103 : Int32) (σ103 : hu_S) (H : Heap) (locs : List Loc) (cells slots : Nat) (ls : Array Slot), hu_M g s υ.2.1 υ.2.2 σ103 H locs cells slots → lv_has ls 11 [(0, .ref v0_103), (2, .ref v2_103), (3, .int v3_103), (5, .int v5_103), (6, .int v6_103), (7, .int v7_103), (8, .int v8_103), (9, .int v9_103)] → hw_J17_indexOf_2_b103 g (fun (u0 : Nat) (u1 : Nat) (u2 : Int32) (u3 : Int32) (u4 : Int32) (u5 : Int32) (τ : hu_S) => hw_J17_indexOf_2_b14 g  n14 u0 u1 u2 u3 u4 u5 τ Q) v0_103 v2_103 v3_103 v5_103 v6_103 v7_103 v8_103 v9_103 σ103 Q → W p l e (hu_R 0 0 υ.2.1 υ.2.2) s m args below meth c H locs cells slots QQ (F0 m 103 ls []) := by
        intro v0_103 v2_103 v3_103 v5_103 v6_103 v7_103 v8_103 v9_103 σ103 H locs cells slots ls M hl hf
        refine lv_iload hx hb dJ17_indexOf_2_103 (lv_at hl 6 rfl) ?_
        refine lv_iload hx hb dJ17_indexOf_2_105 (lv_at hl 7 rfl) ?_
        obtain ⟨hft, hff⟩ := hf
        refine lv_icmp_ne (tgt := 113) hx hb dJ17_indexOf_2_107 (by decide) (fun c1 => ?_) (fun c1 => ?_)
        · have hf := hft c1
          refine lv_iinc (v := v7_103 + 1) (lv' := [(7, .int (v7_103 + 1)), (0, .ref v0_103), (2, .ref v2_103), (3, .int v3_103), (5, .int v5_103), (6, .int v6_103), (8, .int v8_103), (9, .int v9_103)]) hx hb dJ17_indexOf_2_113 hl (k := 5) rfl rfl (by decide) rfl (fun ls hl => ?_)
          refine lv_goto (tgt := 14) hx hb dJ17_indexOf_2_116 (by decide) ?_
          exact ih14 v0_103 v2_103 v3_103 v5_103 v6_103 (v7_103 + 1) σ103 _ _ _ _ _ M (lv_sub hl [1, 2, 3, 4, 5, 0] rfl) hf
        · have hf := hff c1
          refine lv_iload hx hb dJ17_indexOf_2_110 (lv_at hl 5 rfl) ?_
          exact hret _ _ _ _ _ _ _ _ dJ17_indexOf_2_112 M hf
      have B76 : ∀ (n76 : Nat) (v0_76 : Nat) (v2_76 : Nat) (v3_76 : Int32) (v5_76 : Int32) (v6_76 : Int32) (v7_76 : Int32) (v8_76 : Int32) (v9_76 : Int32) (v10_76 : Int32) (σ76 : hu_S) (H : Heap) (locs : List Loc) (cells slots : Nat) (ls : Array Slot), hu_M g s υ.2.1 υ.2.2 σ76 H locs cells slots → lv_has ls 11 [(0, .ref v0_76), (2, .ref v2_76), (3, .int v3_76), (5, .int v5_76), (6, .int v6_76), (7, .int v7_76), (8, .int v8_76), (9, .int v9_76), (10, .int v10_76)] → hw_J17_indexOf_2_b76 g (fun (u0 : Nat) (u1 : Nat) (u2 : Int32) (u3 : Int32) (u4 : Int32) (u5 : Int32) (τ : hu_S) => hw_J17_indexOf_2_b14 g  n14 u0 u1 u2 u3 u4 u5 τ Q) n76 v0_76 v2_76 v3_76 v5_76 v6_76 v7_76 v8_76 v9_76 v10_76 σ76 Q → W p l e (hu_R 0 0 υ.2.1 υ.2.2) s m args below meth c H locs cells slots QQ (F0 m 76 ls []) := by
        intro n76
        induction n76 with
        | zero => intro v0_76 v2_76 v3_76 v5_76 v6_76 v7_76 v8_76 v9_76 v10_76 σ76 H locs cells slots ls M hl hf; exact hf.elim
        | succ n76 ih76 =>
          intro v0_76 v2_76 v3_76 v5_76 v6_76 v7_76 v8_76 v9_76 v10_76 σ76 H locs cells slots ls M hl hf
          refine lv_iload hx hb dJ17_indexOf_2_76 (lv_at hl 6 rfl) ?_
          refine lv_iload hx hb dJ17_indexOf_2_78 (lv_at hl 7 rfl) ?_
          obtain ⟨hft, hff⟩ := hf
          refine lv_icmp_ge (tgt := 103) hx hb dJ17_indexOf_2_80 (by decide) (fun c1 => ?_) (fun c1 => ?_)
          · have hf := hft c1
            exact B103 v0_76 v2_76 v3_76 v5_76 v6_76 v7_76 v8_76 v9_76 σ76 _ _ _ _ _ M (lv_sub hl [0, 1, 2, 3, 4, 5, 6, 7] rfl) hf
          · have hf := hff c1
            refine lv_aload_n hx hb dJ17_indexOf_2_83 rfl (lv_at hl 0 rfl) ?_
            refine lv_iload hx hb dJ17_indexOf_2_84 (lv_at hl 6 rfl) ?_
            obtain ⟨nn_86, ff_86, e_86, i_86, hf⟩ := hf
            refine hu_bald C M e_86 i_86 dJ17_indexOf_2_86 ?_
            generalize ff_86 (Int32.toNatClampNeg v8_76) = b86 at hf ⊢
            refine lv_aload_n hx hb dJ17_indexOf_2_87 rfl (lv_at hl 1 rfl) ?_
            refine lv_iload hx hb dJ17_indexOf_2_88 (lv_at hl 8 rfl) ?_
            obtain ⟨nn_90, ff_90, e_90, i_90, hf⟩ := hf
            refine hu_bald C M e_90 i_90 dJ17_indexOf_2_90 ?_
            generalize ff_90 (Int32.toNatClampNeg v10_76) = b90 at hf ⊢
            obtain ⟨hft, hff⟩ := hf
            refine lv_icmp_ne (tgt := 103) hx hb dJ17_indexOf_2_91 (by decide) (fun c1 => ?_) (fun c1 => ?_)
            · have hf := hft c1
              exact B103 v0_76 v2_76 v3_76 v5_76 v6_76 v7_76 v8_76 v9_76 σ76 _ _ _ _ _ M (lv_sub hl [0, 1, 2, 3, 4, 5, 6, 7] rfl) hf
            · have hf := hff c1
              refine lv_iinc (v := v8_76 + 1) (lv' := [(8, .int (v8_76 + 1)), (0, .ref v0_76), (2, .ref v2_76), (3, .int v3_76), (5, .int v5_76), (6, .int v6_76), (7, .int v7_76), (9, .int v9_76), (10, .int v10_76)]) hx hb dJ17_indexOf_2_94 hl (k := 6) rfl rfl (by decide) rfl (fun ls hl => ?_)
              refine lv_iinc (v := v10_76 + 1) (lv' := [(10, .int (v10_76 + 1)), (8, .int (v8_76 + 1)), (0, .ref v0_76), (2, .ref v2_76), (3, .int v3_76), (5, .int v5_76), (6, .int v6_76), (7, .int v7_76), (9, .int v9_76)]) hx hb dJ17_indexOf_2_97 hl (k := 8) rfl rfl (by decide) rfl (fun ls hl => ?_)
              refine lv_goto (tgt := 76) hx hb dJ17_indexOf_2_100 (by decide) ?_
              exact ih76 v0_76 v2_76 v3_76 v5_76 v6_76 v7_76 (v8_76 + 1) v9_76 (v10_76 + 1) σ76 _ _ _ _ _ M (lv_sub hl [2, 3, 4, 5, 6, 7, 1, 8, 0] rfl) hf
      have B52 : ∀ (v0_52 : Nat) (v2_52 : Nat) (v3_52 : Int32) (v5_52 : Int32) (v6_52 : Int32) (v7_52 : Int32) (σ52 : hu_S) (H : Heap) (locs : List Loc) (cells slots : Nat) (ls : Array Slot), hu_M g s υ.2.1 υ.2.2 σ52 H locs cells slots → lv_has ls 11 [(0, .ref v0_52), (2, .ref v2_52), (3, .int v3_52), (5, .int v5_52), (6, .int v6_52), (7, .int v7_52)] → hw_J17_indexOf_2_b52 g (fun (u0 : Nat) (u1 : Nat) (u2 : Int32) (u3 : Int32) (u4 : Int32) (u5 : Int32) (τ : hu_S) => hw_J17_indexOf_2_b14 g  n14 u0 u1 u2 u3 u4 u5 τ Q) v0_52 v2_52 v3_52 v5_52 v6_52 v7_52 σ52 Q → W p l e (hu_R 0 0 υ.2.1 υ.2.2) s m args below meth c H locs cells slots QQ (F0 m 52 ls []) := by
        intro v0_52 v2_52 v3_52 v5_52 v6_52 v7_52 σ52 H locs cells slots ls M hl hf
        refine lv_iload hx hb dJ17_indexOf_2_52 (lv_at hl 5 rfl) ?_
        refine lv_iload hx hb dJ17_indexOf_2_54 (lv_at hl 4 rfl) ?_
        obtain ⟨hft, hff⟩ := hf
        refine lv_icmp_gt (tgt := 113) hx hb dJ17_indexOf_2_56 (by decide) (fun c1 => ?_) (fun c1 => ?_)
        · have hf := hft c1
          refine lv_iinc (v := v7_52 + 1) (lv' := [(7, .int (v7_52 + 1)), (0, .ref v0_52), (2, .ref v2_52), (3, .int v3_52), (5, .int v5_52), (6, .int v6_52)]) hx hb dJ17_indexOf_2_113 hl (k := 5) rfl rfl (by decide) rfl (fun ls hl => ?_)
          refine lv_goto (tgt := 14) hx hb dJ17_indexOf_2_116 (by decide) ?_
          exact ih14 v0_52 v2_52 v3_52 v5_52 v6_52 (v7_52 + 1) σ52 _ _ _ _ _ M (lv_sub hl [1, 2, 3, 4, 5, 0] rfl) hf
        · have hf := hff c1
          refine lv_iload hx hb dJ17_indexOf_2_59 (lv_at hl 5 rfl) ?_
          refine lv_iconst (v := 1) hx hb dJ17_indexOf_2_61 rfl ?_
          refine lv_iadd hx hb dJ17_indexOf_2_62 ?_
          refine lv_istore (lv' := [(8, .int (v7_52 + 1)), (0, .ref v0_52), (2, .ref v2_52), (3, .int v3_52), (5, .int v5_52), (6, .int v6_52), (7, .int v7_52)]) hx hb dJ17_indexOf_2_63 hl (by decide) rfl (fun ls hl => ?_)
          refine lv_iload hx hb dJ17_indexOf_2_65 (lv_at hl 0 rfl) ?_
          refine lv_iload_n hx hb dJ17_indexOf_2_67 rfl (lv_at hl 3 rfl) ?_
          refine lv_iadd hx hb dJ17_indexOf_2_68 ?_
          refine lv_iconst (v := 1) hx hb dJ17_indexOf_2_69 rfl ?_
          refine lv_isub hx hb dJ17_indexOf_2_70 ?_
          refine lv_istore (lv' := [(9, .int (((v7_52 + 1) + v3_52) - 1)), (8, .int (v7_52 + 1)), (0, .ref v0_52), (2, .ref v2_52), (3, .int v3_52), (5, .int v5_52), (6, .int v6_52), (7, .int v7_52)]) hx hb dJ17_indexOf_2_71 hl (by decide) rfl (fun ls hl => ?_)
          refine lv_iconst (v := 1) hx hb dJ17_indexOf_2_73 rfl ?_
          refine lv_istore (lv' := [(10, .int 1), (9, .int (((v7_52 + 1) + v3_52) - 1)), (8, .int (v7_52 + 1)), (0, .ref v0_52), (2, .ref v2_52), (3, .int v3_52), (5, .int v5_52), (6, .int v6_52), (7, .int v7_52)]) hx hb dJ17_indexOf_2_74 hl (by decide) rfl (fun ls hl => ?_)
          obtain ⟨nn, hf⟩ := hf
          exact B76 nn v0_52 v2_52 v3_52 v5_52 v6_52 v7_52 (v7_52 + 1) (((v7_52 + 1) + v3_52) - 1) 1 σ52 _ _ _ _ _ M (lv_sub hl [3, 4, 5, 6, 7, 8, 2, 1, 0] rfl) hf
      have B30 : ∀ (n30 : Nat) (v0_30 : Nat) (v2_30 : Nat) (v3_30 : Int32) (v5_30 : Int32) (v6_30 : Int32) (v7_30 : Int32) (σ30 : hu_S) (H : Heap) (locs : List Loc) (cells slots : Nat) (ls : Array Slot), hu_M g s υ.2.1 υ.2.2 σ30 H locs cells slots → lv_has ls 11 [(0, .ref v0_30), (2, .ref v2_30), (3, .int v3_30), (5, .int v5_30), (6, .int v6_30), (7, .int v7_30)] → hw_J17_indexOf_2_b30 g (fun (u0 : Nat) (u1 : Nat) (u2 : Int32) (u3 : Int32) (u4 : Int32) (u5 : Int32) (τ : hu_S) => hw_J17_indexOf_2_b14 g  n14 u0 u1 u2 u3 u4 u5 τ Q) n30 v0_30 v2_30 v3_30 v5_30 v6_30 v7_30 σ30 Q → W p l e (hu_R 0 0 υ.2.1 υ.2.2) s m args below meth c H locs cells slots QQ (F0 m 30 ls []) := by
        intro n30
        induction n30 with
        | zero => intro v0_30 v2_30 v3_30 v5_30 v6_30 v7_30 σ30 H locs cells slots ls M hl hf; exact hf.elim
        | succ n30 ih30 =>
          intro v0_30 v2_30 v3_30 v5_30 v6_30 v7_30 σ30 H locs cells slots ls M hl hf
          refine lv_iinc (v := v7_30 + 1) (lv' := [(7, .int (v7_30 + 1)), (0, .ref v0_30), (2, .ref v2_30), (3, .int v3_30), (5, .int v5_30), (6, .int v6_30)]) hx hb dJ17_indexOf_2_30 hl (k := 5) rfl rfl (by decide) rfl (fun ls hl => ?_)
          refine lv_iload hx hb dJ17_indexOf_2_33 (lv_at hl 0 rfl) ?_
          refine lv_iload hx hb dJ17_indexOf_2_35 (lv_at hl 5 rfl) ?_
          obtain ⟨hft, hff⟩ := hf
          refine lv_icmp_gt (tgt := 52) hx hb dJ17_indexOf_2_37 (by decide) (fun c1 => ?_) (fun c1 => ?_)
          · have hf := hft c1
            exact B52 v0_30 v2_30 v3_30 v5_30 v6_30 (v7_30 + 1) σ30 _ _ _ _ _ M (lv_sub hl [1, 2, 3, 4, 5, 0] rfl) hf
          · have hf := hff c1
            refine lv_aload_n hx hb dJ17_indexOf_2_40 rfl (lv_at hl 1 rfl) ?_
            refine lv_iload hx hb dJ17_indexOf_2_41 (lv_at hl 0 rfl) ?_
            obtain ⟨nn_43, ff_43, e_43, i_43, hf⟩ := hf
            refine hu_bald C M e_43 i_43 dJ17_indexOf_2_43 ?_
            generalize ff_43 (Int32.toNatClampNeg (v7_30 + 1)) = b43 at hf ⊢
            refine lv_iload hx hb dJ17_indexOf_2_44 (lv_at hl 4 rfl) ?_
            obtain ⟨hft, hff⟩ := hf
            refine lv_icmp_eq (tgt := 52) hx hb dJ17_indexOf_2_46 (by decide) (fun c1 => ?_) (fun c1 => ?_)
            · have hf := hft c1
              exact B52 v0_30 v2_30 v3_30 v5_30 v6_30 (v7_30 + 1) σ30 _ _ _ _ _ M (lv_sub hl [1, 2, 3, 4, 5, 0] rfl) hf
            · have hf := hff c1
              refine lv_goto (tgt := 30) hx hb dJ17_indexOf_2_49 (by decide) ?_
              exact ih30 v0_30 v2_30 v3_30 v5_30 v6_30 (v7_30 + 1) σ30 _ _ _ _ _ M (lv_sub hl [1, 2, 3, 4, 5, 0] rfl) hf
      intro v0_14 v2_14 v3_14 v5_14 v6_14 v7_14 σ14 H locs cells slots ls M hl hf
      refine lv_iload hx hb dJ17_indexOf_2_14 (lv_at hl 5 rfl) ?_
      refine lv_iload hx hb dJ17_indexOf_2_16 (lv_at hl 4 rfl) ?_
      obtain ⟨hft, hff⟩ := hf
      refine lv_icmp_gt (tgt := 119) hx hb dJ17_indexOf_2_18 (by decide) (fun c1 => ?_) (fun c1 => ?_)
      · have hf := hft c1
        refine lv_iconst (v := (-1)) hx hb dJ17_indexOf_2_119 rfl ?_
        exact hret _ _ _ _ _ _ _ _ dJ17_indexOf_2_120 M hf
      · have hf := hff c1
        refine lv_aload_n hx hb dJ17_indexOf_2_21 rfl (lv_at hl 0 rfl) ?_
        refine lv_iload hx hb dJ17_indexOf_2_22 (lv_at hl 5 rfl) ?_
        obtain ⟨nn_24, ff_24, e_24, i_24, hf⟩ := hf
        refine hu_bald C M e_24 i_24 dJ17_indexOf_2_24 ?_
        generalize ff_24 (Int32.toNatClampNeg v7_14) = b24 at hf ⊢
        refine lv_iload hx hb dJ17_indexOf_2_25 (lv_at hl 3 rfl) ?_
        obtain ⟨hft, hff⟩ := hf
        refine lv_icmp_eq (tgt := 52) hx hb dJ17_indexOf_2_27 (by decide) (fun c1 => ?_) (fun c1 => ?_)
        · have hf := hft c1
          exact B52 v0_14 v2_14 v3_14 v5_14 v6_14 v7_14 σ14 _ _ _ _ _ M (lv_sub hl [0, 1, 2, 3, 4, 5] rfl) hf
        · have hf := hff c1
          obtain ⟨nn, hf⟩ := hf
          exact B30 nn v0_14 v2_14 v3_14 v5_14 v6_14 v7_14 σ14 _ _ _ _ _ M (lv_sub hl [0, 1, 2, 3, 4, 5] rfl) hf
  refine lv_aload_n hx hb dJ17_indexOf_2_0 rfl (lv_at hl 2 rfl) ?_
  refine lv_iconst (v := 0) hx hb dJ17_indexOf_2_1 rfl ?_
  obtain ⟨nn_2, ff_2, e_2, i_2, hf⟩ := hf
  refine hu_bald C M e_2 i_2 dJ17_indexOf_2_2 ?_
  generalize ff_2 (Int32.toNatClampNeg (0 : Int32)) = b2 at hf ⊢
  refine lv_istore (lv' := [(5, .int b2), (0, .ref a0), (1, .int a1), (2, .ref a2), (3, .int a3), (4, .int a4)]) hx hb dJ17_indexOf_2_3 hl (by decide) rfl (fun ls hl => ?_)
  refine lv_iload_n hx hb dJ17_indexOf_2_5 rfl (lv_at hl 2 rfl) ?_
  refine lv_iload_n hx hb dJ17_indexOf_2_6 rfl (lv_at hl 4 rfl) ?_
  refine lv_isub hx hb dJ17_indexOf_2_7 ?_
  refine lv_istore (lv' := [(6, .int (a1 - a3)), (5, .int b2), (0, .ref a0), (1, .int a1), (2, .ref a2), (3, .int a3), (4, .int a4)]) hx hb dJ17_indexOf_2_8 hl (by decide) rfl (fun ls hl => ?_)
  refine lv_iload hx hb dJ17_indexOf_2_10 (lv_at hl 6 rfl) ?_
  refine lv_istore (lv' := [(7, .int a4), (6, .int (a1 - a3)), (5, .int b2), (0, .ref a0), (1, .int a1), (2, .ref a2), (3, .int a3), (4, .int a4)]) hx hb dJ17_indexOf_2_12 hl (by decide) rfl (fun ls hl => ?_)
  obtain ⟨nn, hf⟩ := hf
  exact B14 nn a0 a2 a3 b2 (a1 - a3) a4 υ _ _ _ _ _ M (lv_sub hl [3, 5, 6, 2, 1, 0] rfl) hf
def hw_J17_indexOf (g : hu_G) (a0 : Nat) (a1 : Nat) (υ : hu_S) (Q : Int32 → hu_S → Prop) : Prop := hu_gl g υ a1 (fun n1 => ((¬ n1 = 0 → hu_gl g υ a0 (fun n8 => ((¬ n8 = 0 → hu_gl g υ a0 (fun n16 => (hu_gl g υ a1 (fun n19 => (hu_c υ (hw_J17_indexOf_2 g a0 n16 a1 n19 0) (fun r21 τ21 => (Q r21 τ21))))))) ∧ (n8 = 0 → Q (-1) υ)))) ∧ (n1 = 0 → Q 0 υ)))
set_option maxHeartbeats 4000000 in
set_option maxRecDepth 100000 in
theorem hk_J17_indexOf (l : Launch) (g : hu_G) (a0 : Nat) (a1 : Nat) {υ : hu_S} {Q : Int32 → hu_S → Prop} (hf : hw_J17_indexOf g a0 a1 υ Q) : Met l yJ17_indexOf (ws_ yJ17_indexOf cJ17_indexOf 2 (some .int)) (hu_R 1 30 υ.2.1 υ.2.2) (va_Pc [.ref a0, .ref a1] (hu_U g υ)) (va_Qi Q (hu_B g) (hg_A g)) υ.2.1 υ.2.2 (hg_A g) := by
  refine hu_Mi (LV := [(0, .ref a0), (1, .ref a1)]) (by decide) rfl (Nat.le_of_ble_eq_true rfl) (fun p e s m args below meth c H locs cells slots ls QQ C M hin hl hret => ?_)
  have hx := C.1.1
  have hb := C.1.2.1
  unfold hw_J17_indexOf at hf
  refine lv_aload_n hx hb dJ17_indexOf_0 rfl (lv_at hl 1 rfl) ?_
  obtain ⟨nn_1, ff_1, e_1, hf⟩ := hf
  refine hu_blen C M e_1 dJ17_indexOf_1 ?_
  generalize nI nn_1 = n1 at hf ⊢
  obtain ⟨hft, hff⟩ := hf
  refine lv_if_ne (tgt := 7) hx hb dJ17_indexOf_2 (by decide) (fun c1 => ?_) (fun c1 => ?_)
  · have hf := hft c1
    refine lv_aload_n hx hb dJ17_indexOf_7 rfl (lv_at hl 0 rfl) ?_
    obtain ⟨nn_8, ff_8, e_8, hf⟩ := hf
    refine hu_blen C M e_8 dJ17_indexOf_8 ?_
    generalize nI nn_8 = n8 at hf ⊢
    obtain ⟨hft, hff⟩ := hf
    refine lv_if_ne (tgt := 14) hx hb dJ17_indexOf_9 (by decide) (fun c1 => ?_) (fun c1 => ?_)
    · have hf := hft c1
      refine lv_aload_n hx hb dJ17_indexOf_14 rfl (lv_at hl 0 rfl) ?_
      refine lv_aload_n hx hb dJ17_indexOf_15 rfl (lv_at hl 0 rfl) ?_
      obtain ⟨nn_16, ff_16, e_16, hf⟩ := hf
      refine hu_blen C M e_16 dJ17_indexOf_16 ?_
      generalize nI nn_16 = n16 at hf ⊢
      refine lv_aload_n hx hb dJ17_indexOf_17 rfl (lv_at hl 1 rfl) ?_
      refine lv_aload_n hx hb dJ17_indexOf_18 rfl (lv_at hl 1 rfl) ?_
      obtain ⟨nn_19, ff_19, e_19, hf⟩ := hf
      refine hu_blen C M e_19 dJ17_indexOf_19 ?_
      generalize nI nn_19 = n19 at hf ⊢
      refine lv_iconst (v := 0) hx hb dJ17_indexOf_20 rfl ?_
      obtain ⟨cc_21, cs_21, h1_21, h2_21, hf⟩ := hf
      refine hu_ki M h1_21 h2_21 (hu_rS C M hl.1 (Nat.le_refl _) (Nat.le_refl _) h1_21 h2_21 (As := [.ref a0, .int n16, .ref a1, .int n19, .int 0]) (rest := []) (n := 5) (hk_J17_indexOf_2 l g a0 n16 a1 n19 0 (υ := (υ.1, cc_21, cs_21)) hf) q949 q950 q150 q951 (by decide +kernel) rfl ⟨Nat.le_of_ble_eq_true rfl, Nat.le_of_ble_eq_true rfl⟩ rfl (Nat.le_of_ble_eq_true rfl) dJ17_indexOf_21) (fun r21 u9 H locs hf M => ?_)
      generalize (u9.1, υ.2.1 - cc_21, υ.2.2 - cs_21) = τ21 at M hf
      generalize cells + cc_21 = cells at M ⊢
      generalize slots + cs_21 = slots at M ⊢
      exact hret _ _ _ _ _ _ _ _ dJ17_indexOf_24 M hf
    · have hf := hff c1
      refine lv_iconst (v := (-1)) hx hb dJ17_indexOf_12 rfl ?_
      exact hret _ _ _ _ _ _ _ _ dJ17_indexOf_13 M hf
  · have hf := hff c1
    refine lv_iconst (v := 0) hx hb dJ17_indexOf_5 rfl ?_
    exact hret _ _ _ _ _ _ _ _ dJ17_indexOf_6 M hf
def hw_J13_indexOf (g : hu_G) (o : Nat) (a1 : Nat) (υ : hu_S) (Q : Int32 → hu_S → Prop) : Prop := hu_k g υ o 3 ∧ (hu_c υ (hw_J13_coder g o) (fun r1 τ1 => (hu_k g τ1 a1 3 ∧ (hu_c τ1 (hw_J13_coder g a1) (fun r7 τ7 => ((¬ r1 = r7 → (¬ r1 = 0 → hu_gr g τ7 o 3 0 (fun x53 => (hu_gr g τ7 a1 3 0 (fun x57 => (False))))) ∧ (r1 = 0 → Q (-1) τ7)) ∧ (r1 = r7 → hu_k g τ7 o 3 ∧ (hu_c τ7 (hw_J13_isLatin1 g o) (fun r14 τ14 => ((r14 = 0 → hu_gr g τ14 o 3 0 (fun x35 => (hu_gr g τ14 a1 3 0 (fun x39 => (False))))) ∧ (¬ r14 = 0 → hu_gr g τ14 o 3 0 (fun x21 => (hu_gr g τ14 a1 3 0 (fun x25 => (hu_c τ14 (hw_J17_indexOf g x21 x25) (fun r28 τ28 => (Q r28 τ28)))))))))))))))))
set_option maxHeartbeats 4000000 in
set_option maxRecDepth 100000 in
theorem hk_J13_indexOf (l : Launch) (g : hu_G) (o : Nat) (a1 : Nat) {υ : hu_S} {Q : Int32 → hu_S → Prop} (hf : hw_J13_indexOf g o a1 υ Q) : Met l yJ13_indexOf (ws_ yJ13_indexOf cJ13_indexOf 3 (some .int)) (hu_R 2 51 υ.2.1 υ.2.2) (va_Pc [.ref o, .ref a1] (hu_U g υ)) (va_Qi Q (hu_B g) (hg_A g)) υ.2.1 υ.2.2 (hg_A g) := by
  refine hu_Mi (LV := [(0, .ref o), (1, .ref a1)]) (by decide) rfl (Nat.le_of_ble_eq_true rfl) (fun p e s m args below meth c H locs cells slots ls QQ C M hin hl hret => ?_)
  have hx := C.1.1
  have hb := C.1.2.1
  unfold hw_J13_indexOf at hf
  refine lv_aload_n hx hb dJ13_indexOf_0 rfl (lv_at hl 0 rfl) ?_
  obtain ⟨g_1, hf⟩ := hf
  obtain ⟨cc_1, cs_1, h1_1, h2_1, hf⟩ := hf
  refine hu_ki M h1_1 h2_1 (hu_rV C M hl.1 (Nat.le_refl _) (Nat.le_refl _) h1_1 h2_1 g_1 rfl (As := []) (rest := []) (n := 0) (hk_J13_coder l g o (υ := (υ.1, cc_1, cs_1)) hf) q919 q920 q921 q145 q922 rfl (by decide +kernel) rfl ⟨Nat.le_of_ble_eq_true rfl, Nat.le_of_ble_eq_true rfl⟩ rfl (Nat.le_of_ble_eq_true rfl) dJ13_indexOf_1) (fun r1 u9 H locs hf M => ?_)
  generalize (u9.1, υ.2.1 - cc_1, υ.2.2 - cs_1) = τ1 at M hf
  generalize cells + cc_1 = cells at M ⊢
  generalize slots + cs_1 = slots at M ⊢
  refine lv_istore_n (lv' := [(2, .int r1), (0, .ref o), (1, .ref a1)]) hx hb dJ13_indexOf_4 rfl hl (by decide) rfl (fun ls hl => ?_)
  refine lv_iload_n hx hb dJ13_indexOf_5 rfl (lv_at hl 0 rfl) ?_
  refine lv_aload_n hx hb dJ13_indexOf_6 rfl (lv_at hl 2 rfl) ?_
  obtain ⟨g_7, hf⟩ := hf
  obtain ⟨cc_7, cs_7, h1_7, h2_7, hf⟩ := hf
  refine hu_ki M h1_7 h2_7 (hu_rV C M hl.1 (Nat.le_refl _) (Nat.le_refl _) h1_7 h2_7 g_7 rfl (As := []) (rest := [.int r1]) (n := 0) (hk_J13_coder l g a1 (υ := (τ1.1, cc_7, cs_7)) hf) q919 q920 q921 q145 q922 rfl (by decide +kernel) rfl ⟨Nat.le_of_ble_eq_true rfl, Nat.le_of_ble_eq_true rfl⟩ rfl (Nat.le_of_ble_eq_true rfl) dJ13_indexOf_7) (fun r7 u9 H locs hf M => ?_)
  generalize (u9.1, τ1.2.1 - cc_7, τ1.2.2 - cs_7) = τ7 at M hf
  generalize cells + cc_7 = cells at M ⊢
  generalize slots + cs_7 = slots at M ⊢
  obtain ⟨hft, hff⟩ := hf
  refine lv_icmp_ne (tgt := 46) hx hb dJ13_indexOf_10 (by decide) (fun c1 => ?_) (fun c1 => ?_)
  · have hf := hft c1
    refine lv_iload_n hx hb dJ13_indexOf_46 rfl (lv_at hl 0 rfl) ?_
    obtain ⟨hft, hff⟩ := hf
    refine lv_if_ne (tgt := 52) hx hb dJ13_indexOf_47 (by decide) (fun c1 => ?_) (fun c1 => ?_)
    · have hf := hft c1
      refine lv_aload_n hx hb dJ13_indexOf_52 rfl (lv_at hl 1 rfl) ?_
      obtain ⟨x53, e_53, hf⟩ := hf
      refine hu_get C M e_53 (CN := RJ13) (T := TJ13) (N := 4) rfl in_J13 (by decide) q815 dJ13_indexOf_53 ?_
      refine lv_aload_n hx hb dJ13_indexOf_56 rfl (lv_at hl 2 rfl) ?_
      obtain ⟨x57, e_57, hf⟩ := hf
      refine hu_get C M e_57 (CN := RJ13) (T := TJ13) (N := 4) rfl in_J13 (by decide) q815 dJ13_indexOf_57 ?_
      exact hf.elim
    · have hf := hff c1
      refine lv_iconst (v := (-1)) hx hb dJ13_indexOf_50 rfl ?_
      exact hret _ _ _ _ _ _ _ _ dJ13_indexOf_51 M hf
  · have hf := hff c1
    refine lv_aload_n hx hb dJ13_indexOf_13 rfl (lv_at hl 1 rfl) ?_
    obtain ⟨g_14, hf⟩ := hf
    obtain ⟨cc_14, cs_14, h1_14, h2_14, hf⟩ := hf
    refine hu_ki M h1_14 h2_14 (hu_rV C M hl.1 (Nat.le_refl _) (Nat.le_refl _) h1_14 h2_14 g_14 rfl (As := []) (rest := []) (n := 0) (hk_J13_isLatin1 l g o (υ := (τ7.1, cc_14, cs_14)) hf) q942 q943 q944 q145 q945 rfl (by decide +kernel) rfl ⟨Nat.le_of_ble_eq_true rfl, Nat.le_of_ble_eq_true rfl⟩ rfl (Nat.le_of_ble_eq_true rfl) dJ13_indexOf_14) (fun r14 u9 H locs hf M => ?_)
    generalize (u9.1, τ7.2.1 - cc_14, τ7.2.2 - cs_14) = τ14 at M hf
    generalize cells + cc_14 = cells at M ⊢
    generalize slots + cs_14 = slots at M ⊢
    obtain ⟨hft, hff⟩ := hf
    refine lv_if_eq (tgt := 34) hx hb dJ13_indexOf_17 (by decide) (fun c1 => ?_) (fun c1 => ?_)
    · have hf := hft c1
      refine lv_aload_n hx hb dJ13_indexOf_34 rfl (lv_at hl 1 rfl) ?_
      obtain ⟨x35, e_35, hf⟩ := hf
      refine hu_get C M e_35 (CN := RJ13) (T := TJ13) (N := 4) rfl in_J13 (by decide) q815 dJ13_indexOf_35 ?_
      refine lv_aload_n hx hb dJ13_indexOf_38 rfl (lv_at hl 2 rfl) ?_
      obtain ⟨x39, e_39, hf⟩ := hf
      refine hu_get C M e_39 (CN := RJ13) (T := TJ13) (N := 4) rfl in_J13 (by decide) q815 dJ13_indexOf_39 ?_
      exact hf.elim
    · have hf := hff c1
      refine lv_aload_n hx hb dJ13_indexOf_20 rfl (lv_at hl 1 rfl) ?_
      obtain ⟨x21, e_21, hf⟩ := hf
      refine hu_get C M e_21 (CN := RJ13) (T := TJ13) (N := 4) rfl in_J13 (by decide) q815 dJ13_indexOf_21 ?_
      refine lv_aload_n hx hb dJ13_indexOf_24 rfl (lv_at hl 2 rfl) ?_
      obtain ⟨x25, e_25, hf⟩ := hf
      refine hu_get C M e_25 (CN := RJ13) (T := TJ13) (N := 4) rfl in_J13 (by decide) q815 dJ13_indexOf_25 ?_
      obtain ⟨cc_28, cs_28, h1_28, h2_28, hf⟩ := hf
      refine hu_ki M h1_28 h2_28 (hu_rS C M hl.1 (Nat.le_refl _) (Nat.le_refl _) h1_28 h2_28 (As := [.ref x21, .ref x25]) (rest := []) (n := 2) (hk_J17_indexOf l g x21 x25 (υ := (τ14.1, cc_28, cs_28)) hf) q946 q947 q150 q948 (by decide +kernel) rfl ⟨Nat.le_of_ble_eq_true rfl, Nat.le_of_ble_eq_true rfl⟩ rfl (Nat.le_of_ble_eq_true rfl) dJ13_indexOf_28) (fun r28 u9 H locs hf M => ?_)
      generalize (u9.1, τ14.2.1 - cc_28, τ14.2.2 - cs_28) = τ28 at M hf
      generalize cells + cc_28 = cells at M ⊢
      generalize slots + cs_28 = slots at M ⊢
      refine lv_goto (tgt := 45) hx hb dJ13_indexOf_31 (by decide) ?_
      exact hret _ _ _ _ _ _ _ _ dJ13_indexOf_45 M hf
def hw_J13_equals_b36 (g : hu_G) (o : Nat) (v2_36 : Nat) (σ36 : hu_S) (Q : Int32 → hu_S → Prop) : Prop := hu_gr g σ36 o 3 0 (fun x37 => (hu_gr g σ36 v2_36 3 0 (fun x41 => (hu_c σ36 (hw_J17_equals g x37 x41) (fun r44 τ44 => ((r44 = 0 → Q 0 τ44) ∧ (¬ r44 = 0 → Q 1 τ44)))))))
def hw_J13_equals (g : hu_G) (o : Nat) (a1 : Nat) (υ : hu_S) (Q : Int32 → hu_S → Prop) : Prop := (¬ o = a1 → hu_k g υ a1 3 ∧ (((1 : Int32) = 0 → Q 0 υ) ∧ (¬ (1 : Int32) = 0 → hu_k g υ a1 3 ∧ (((1 : Int32) = 0 → hw_J13_equals_b36 g o  a1 υ Q) ∧ (¬ (1 : Int32) = 0 → hu_gi g υ o 3 1 (fun x26 => (hu_gi g υ a1 3 1 (fun x30 => ((¬ x26 = x30 → Q 0 υ) ∧ (x26 = x30 → hw_J13_equals_b36 g o  a1 υ Q)))))))))) ∧ (o = a1 → Q 1 υ)
set_option maxHeartbeats 4000000 in
set_option maxRecDepth 100000 in
theorem hk_J13_equals (l : Launch) (g : hu_G) (o : Nat) (a1 : Nat) {υ : hu_S} {Q : Int32 → hu_S → Prop} (hf : hw_J13_equals g o a1 υ Q) : Met l yJ13_equals (ws_ yJ13_equals cJ13_equals 3 (some .boolean)) (hu_R 1 22 υ.2.1 υ.2.2) (va_Pc [.ref o, .ref a1] (hu_U g υ)) (va_Qi Q (hu_B g) (hg_A g)) υ.2.1 υ.2.2 (hg_A g) := by
  refine hu_Mz (LV := [(0, .ref o), (1, .ref a1)]) (by decide) rfl (Nat.le_of_ble_eq_true rfl) (fun p e s m args below meth c H locs cells slots ls QQ C M hin hl hret => ?_)
  have hx := C.1.1
  have hb := C.1.2.1
  unfold hw_J13_equals at hf
  have B36 : ∀ (v2_36 : Nat) (σ36 : hu_S) (H : Heap) (locs : List Loc) (cells slots : Nat) (ls : Array Slot), hu_M g s υ.2.1 υ.2.2 σ36 H locs cells slots → lv_has ls 3 [(0, .ref o), (2, .ref v2_36)] → hw_J13_equals_b36 g o  v2_36 σ36 Q → W p l e (hu_R 1 22 υ.2.1 υ.2.2) s m args below meth c H locs cells slots QQ (F0 m 36 ls []) := by
    intro v2_36 σ36 H locs cells slots ls M hl hf
    refine lv_aload_n hx hb dJ13_equals_36 rfl (lv_at hl 0 rfl) ?_
    obtain ⟨x37, e_37, hf⟩ := hf
    refine hu_get C M e_37 (CN := RJ13) (T := TJ13) (N := 4) rfl in_J13 (by decide) q815 dJ13_equals_37 ?_
    refine lv_aload_n hx hb dJ13_equals_40 rfl (lv_at hl 1 rfl) ?_
    obtain ⟨x41, e_41, hf⟩ := hf
    refine hu_get C M e_41 (CN := RJ13) (T := TJ13) (N := 4) rfl in_J13 (by decide) q815 dJ13_equals_41 ?_
    obtain ⟨cc_44, cs_44, h1_44, h2_44, hf⟩ := hf
    refine hu_ki M h1_44 h2_44 (hu_rS C M hl.1 (Nat.le_refl _) (Nat.le_refl _) h1_44 h2_44 (As := [.ref x37, .ref x41]) (rest := []) (n := 2) (hk_J17_equals l g x37 x41 (υ := (σ36.1, cc_44, cs_44)) hf) q842 q843 q150 q844 (by decide +kernel) rfl ⟨Nat.le_of_ble_eq_true rfl, Nat.le_of_ble_eq_true rfl⟩ rfl (Nat.le_of_ble_eq_true rfl) dJ13_equals_44) (fun r44 u9 H locs hf M => ?_)
    generalize (u9.1, σ36.2.1 - cc_44, σ36.2.2 - cs_44) = τ44 at M hf
    generalize cells + cc_44 = cells at M ⊢
    generalize slots + cs_44 = slots at M ⊢
    obtain ⟨hft, hff⟩ := hf
    refine lv_if_eq (tgt := 54) hx hb dJ13_equals_47 (by decide) (fun c1 => ?_) (fun c1 => ?_)
    · have hf := hft c1
      refine lv_iconst (v := 0) hx hb dJ13_equals_54 rfl ?_
      exact hret _ _ _ _ _ _ _ _ dJ13_equals_55 M hb_B0 hf
    · have hf := hff c1
      refine lv_iconst (v := 1) hx hb dJ13_equals_50 rfl ?_
      refine lv_goto (tgt := 55) hx hb dJ13_equals_51 (by decide) ?_
      exact hret _ _ _ _ _ _ _ _ dJ13_equals_55 M hb_B1 hf
  refine lv_aload_n hx hb dJ13_equals_0 rfl (lv_at hl 0 rfl) ?_
  refine lv_aload_n hx hb dJ13_equals_1 rfl (lv_at hl 1 rfl) ?_
  obtain ⟨hft, hff⟩ := hf
  refine hu_acmp_ne (x := o) (y := a1) (tgt := 7) hx hb dJ13_equals_2 (by decide) (fun c1 => ?_) (fun c1 => ?_)
  · have hf := hft c1
    refine lv_aload_n hx hb dJ13_equals_7 rfl (lv_at hl 1 rfl) ?_
    obtain ⟨g_8, hf⟩ := hf
    refine va_instS hx hb C.1.2.2.2.1 (C.1.2.2.2.2 _ q841) (C.2.1.1 3 _ rfl).2 (M.recv C.2 g_8 rfl) dJ13_equals_8 ?_
    obtain ⟨hft, hff⟩ := hf
    refine lv_if_eq (tgt := 54) hx hb dJ13_equals_11 (by decide) (fun c1 => ?_) (fun c1 => ?_)
    · have hf := hft c1
      refine lv_iconst (v := 0) hx hb dJ13_equals_54 rfl ?_
      exact hret _ _ _ _ _ _ _ _ dJ13_equals_55 M hb_B0 hf
    · have hf := hff c1
      refine lv_aload_n hx hb dJ13_equals_14 rfl (lv_at hl 1 rfl) ?_
      obtain ⟨g_15, hf⟩ := hf
      refine va_castS hx hb C.1.2.2.2.1 (C.1.2.2.2.2 _ q841) (C.2.1.1 3 _ rfl).2 (M.recv C.2 g_15 rfl) dJ13_equals_15 ?_
      refine lv_astore_n (lv' := [(2, .ref a1), (0, .ref o), (1, .ref a1)]) hx hb dJ13_equals_18 rfl hl (by decide) rfl (fun ls hl => ?_)
      refine va_gets hx hb M.2.2.2.2.1.2.1 M.2.2.1 C.1.2.2.2.1 (C.1.2.2.2.2 _ q801) (fun _ h => h) dJ13_equals_19 ?_
      obtain ⟨hft, hff⟩ := hf
      refine lv_if_eq (tgt := 36) hx hb dJ13_equals_22 (by decide) (fun c1 => ?_) (fun c1 => ?_)
      · have hf := hft c1
        exact B36 a1 υ _ _ _ _ _ M (lv_sub hl [1, 0] rfl) hf
      · have hf := hff c1
        refine lv_aload_n hx hb dJ13_equals_25 rfl (lv_at hl 1 rfl) ?_
        obtain ⟨x26, e_26, hf⟩ := hf
        refine hu_get C M e_26 (CN := RJ13) (T := TJ13) (N := 4) rfl in_J13 (by decide) q816 dJ13_equals_26 ?_
        refine lv_aload_n hx hb dJ13_equals_29 rfl (lv_at hl 0 rfl) ?_
        obtain ⟨x30, e_30, hf⟩ := hf
        refine hu_get C M e_30 (CN := RJ13) (T := TJ13) (N := 4) rfl in_J13 (by decide) q816 dJ13_equals_30 ?_
        obtain ⟨hft, hff⟩ := hf
        refine lv_icmp_ne (tgt := 54) hx hb dJ13_equals_33 (by decide) (fun c1 => ?_) (fun c1 => ?_)
        · have hf := hft c1
          refine lv_iconst (v := 0) hx hb dJ13_equals_54 rfl ?_
          exact hret _ _ _ _ _ _ _ _ dJ13_equals_55 M hb_B0 hf
        · have hf := hff c1
          exact B36 a1 υ _ _ _ _ _ M (lv_sub hl [1, 0] rfl) hf
  · have hf := hff c1
    refine lv_iconst (v := 1) hx hb dJ13_equals_5 rfl ?_
    exact hret _ _ _ _ _ _ _ _ dJ13_equals_6 M hb_B1 hf
