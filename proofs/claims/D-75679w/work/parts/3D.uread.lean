set_option maxRecDepth 100000
def hw_J7_init_2_b41 (g : hu_G) (o : Nat) (v3_41 : Int32) (σ41 : hu_S) (Q : hu_S → Prop) : Prop := hu_pt σ41 o 27 3 (.null) (fun τ43 => (hu_pt τ43 o 27 0 (.null) (fun τ48 => ((¬ v3_41 = 0 → Q τ48) ∧ (v3_41 = 0 → hu_pt τ48 o 27 2 (.null) (fun τ57 => (Q τ57)))))))
def hw_J7_init_2 (g : hu_G) (o : Nat) (a3 : Int32) (a4 : Int32) (υ : hu_S) (Q : hu_S → Prop) : Prop := hu_pt υ o 27 0 (.ref o) (fun τ6 => (∀ z10 : Value, hu_nr z10 → (hu_pt τ6 o 27 1 ((z10)) (fun τ13 => (∀ z17 : Value, hu_nr z17 → (hu_pt τ13 o 27 2 ((z17)) (fun τ20 => ((a4 = 0 → hu_pt τ20 o 27 1 (.null) (fun τ38 => (hw_J7_init_2_b41 g o  a3 τ38 Q))) ∧ (¬ a4 = 0 → False)))))))))
set_option maxHeartbeats 4000000 in
set_option maxRecDepth 100000 in
theorem hk_J7_init_2 (l : Launch) (g : hu_G) (o : Nat) (a3 : Int32) (a4 : Int32) {υ : hu_S} {Q : hu_S → Prop} (hf : hw_J7_init_2 g o a3 a4 υ Q) : Met l yJ7_init_2 (ws_ yJ7_init_2 cJ7_init_2 5 none) (hu_R 1 20 υ.2.1 υ.2.2) (va_Pc [.ref o, .null, .null, .int a3, .int a4] (hu_U g υ)) (va_Qv Q (hu_B g) (hg_A g)) υ.2.1 υ.2.2 (hg_A g) := by
  refine hu_Mv (LV := [(0, .ref o), (1, .null), (2, .null), (3, .int a3), (4, .int a4)]) (by decide) rfl (Nat.le_of_ble_eq_true rfl) (fun p e s m args below meth c H locs cells slots ls QQ C M hin hl hret => ?_)
  have hx := C.1.1
  have hb := C.1.2.1
  unfold hw_J7_init_2 at hf
  have B41 : ∀ (v3_41 : Int32) (σ41 : hu_S) (H : Heap) (locs : List Loc) (cells slots : Nat) (ls : Array Slot), hu_M g s υ.2.1 υ.2.2 σ41 H locs cells slots → lv_has ls 5 [(0, .ref o), (1, .null), (2, .null), (3, .int v3_41)] → hw_J7_init_2_b41 g o  v3_41 σ41 Q → W p l e (hu_R 1 20 υ.2.1 υ.2.2) s m args below meth c H locs cells slots QQ (F0 m 41 ls []) := by
    intro v3_41 σ41 H locs cells slots ls M hl hf
    refine lv_aload_n hx hb dJ7_init_2_41 rfl (lv_at hl 0 rfl) ?_
    refine lv_aload_nN hx hb dJ7_init_2_42 rfl (lv_at hl 1 rfl) ?_
    obtain ⟨g_43, hf⟩ := hf
    refine hu_put0 C M g_43 (CN := RX8) (T := TX8) (N := 8) rfl in_X8 tyX8 tyX8_ok nmX8 (by decide) q439 rfl (ty := .object "java/lang/String") (by decide +kernel) rfl rfl dJ7_init_2_43 (fun H locs M => ?_)
    generalize hu_put σ41 o 3 (.null) = τ43 at M hf
    refine lv_aload_n hx hb dJ7_init_2_46 rfl (lv_at hl 0 rfl) ?_
    refine lv_aload_nN hx hb dJ7_init_2_47 rfl (lv_at hl 2 rfl) ?_
    obtain ⟨g_48, hf⟩ := hf
    refine hu_put0 C M g_48 (CN := RX8) (T := TX8) (N := 8) rfl in_X8 tyX8 tyX8_ok nmX8 (by decide) q440 rfl (ty := .object "java/lang/Throwable") (by decide +kernel) rfl rfl dJ7_init_2_48 (fun H locs M => ?_)
    generalize hu_put τ43 o 0 (.null) = τ48 at M hf
    refine lv_iload_n hx hb dJ7_init_2_51 rfl (lv_at hl 3 rfl) ?_
    obtain ⟨hft, hff⟩ := hf
    refine lv_if_ne (tgt := 60) hx hb dJ7_init_2_52 (by decide) (fun c1 => ?_) (fun c1 => ?_)
    · have hf := hft c1
      exact hret _ _ _ _ _ _ _ dJ7_init_2_60 M hf
    · have hf := hff c1
      refine lv_aload_n hx hb dJ7_init_2_55 rfl (lv_at hl 0 rfl) ?_
      refine lv_null hx hb dJ7_init_2_56 ?_
      obtain ⟨g_57, hf⟩ := hf
      refine hu_put0 C M g_57 (CN := RX8) (T := TX8) (N := 8) rfl in_X8 tyX8 tyX8_ok nmX8 (by decide) q442 rfl (ty := .object "java/util/List") (by decide +kernel) rfl rfl dJ7_init_2_57 (fun H locs M => ?_)
      generalize hu_put τ48 o 2 (.null) = τ57 at M hf
      exact hret _ _ _ _ _ _ _ dJ7_init_2_60 M hf
  refine lv_aload_n hx hb dJ7_init_2_0 rfl (lv_at hl 0 rfl) ?_
  refine W.objInit hx hb C.1.2.2.2.1 (C.1.2.2.2.2 _ q413) (C.1.2.2.2.2 _ q180) (C.1.2.2.2.2 _ q181) rfl (hl.1.trans C.1.2.2.1.symm) rfl dJ7_init_2_1 (Nat.le_of_ble_eq_true rfl) (Nat.le_of_ble_eq_true rfl) ?_
  refine W.eq (g2 := F0 m 4 ls []) rfl ?_
  refine lv_aload_n hx hb dJ7_init_2_4 rfl (lv_at hl 0 rfl) ?_
  refine lv_aload_n hx hb dJ7_init_2_5 rfl (lv_at hl 0 rfl) ?_
  obtain ⟨g_6, hf⟩ := hf
  refine hu_put0 C M g_6 (CN := RX8) (T := TX8) (N := 8) rfl in_X8 tyX8 tyX8_ok nmX8 (by decide) q440 rfl (ty := .object "java/lang/Throwable") (by decide +kernel) rfl rfl dJ7_init_2_6 (fun H locs M => ?_)
  generalize hu_put υ o 0 (.ref o) = τ6 at M hf
  refine lv_aload_n hx hb dJ7_init_2_9 rfl (lv_at hl 0 rfl) ?_
  obtain ⟨z10, hz_10, hZ_10⟩ := hu_nr_of M.2.2.2.2.1.2.2.2.2.2.2.1
  have hf := hf z10 hz_10
  refine va_gets hx hb hZ_10 M.2.2.1 C.1.2.2.2.1 (C.1.2.2.2.2 _ q414) (fun _ h => h) dJ7_init_2_10 ?_
  obtain ⟨g_13, hf⟩ := hf
  refine hu_put0 C M g_13 (CN := RX8) (T := TX8) (N := 8) rfl in_X8 tyX8 tyX8_ok nmX8 (by decide) q441 rfl (ty := .array (.object "java/lang/StackTraceElement")) (by decide +kernel) (hu_nr_a hz_10).1 (hu_nr_a hz_10).2 dJ7_init_2_13 (fun H locs M => ?_)
  generalize hu_put τ6 o 1 ((z10)) = τ13 at M hf
  refine lv_aload_n hx hb dJ7_init_2_16 rfl (lv_at hl 0 rfl) ?_
  obtain ⟨z17, hz_17, hZ_17⟩ := hu_nr_of M.2.2.2.2.1.2.2.2.2.2.2.2.1
  have hf := hf z17 hz_17
  refine va_gets hx hb hZ_17 M.2.2.1 C.1.2.2.2.1 (C.1.2.2.2.2 _ q416) (fun _ h => h) dJ7_init_2_17 ?_
  obtain ⟨g_20, hf⟩ := hf
  refine hu_put0 C M g_20 (CN := RX8) (T := TX8) (N := 8) rfl in_X8 tyX8 tyX8_ok nmX8 (by decide) q442 rfl (ty := .object "java/util/List") (by decide +kernel) (hu_nr_o hz_17).1 (hu_nr_o hz_17).2 dJ7_init_2_20 (fun H locs M => ?_)
  generalize hu_put τ13 o 2 ((z17)) = τ20 at M hf
  refine lv_iload hx hb dJ7_init_2_23 (lv_at hl 4 rfl) ?_
  obtain ⟨hft, hff⟩ := hf
  refine lv_if_eq (tgt := 36) hx hb dJ7_init_2_25 (by decide) (fun c1 => ?_) (fun c1 => ?_)
  · have hf := hft c1
    refine lv_aload_n hx hb dJ7_init_2_36 rfl (lv_at hl 0 rfl) ?_
    refine lv_null hx hb dJ7_init_2_37 ?_
    obtain ⟨g_38, hf⟩ := hf
    refine hu_put0 C M g_38 (CN := RX8) (T := TX8) (N := 8) rfl in_X8 tyX8 tyX8_ok nmX8 (by decide) q441 rfl (ty := .array (.object "java/lang/StackTraceElement")) (by decide +kernel) rfl rfl dJ7_init_2_38 (fun H locs M => ?_)
    generalize hu_put τ20 o 1 (.null) = τ38 at M hf
    exact B41 a3 τ38 _ _ _ _ _ M (lv_sub hl [0, 1, 2, 3] rfl) hf
  · have hf := hff c1
    refine lv_aload_n hx hb dJ7_init_2_28 rfl (lv_at hl 0 rfl) ?_
    exact hf.elim
def hw_J8_init_2 (g : hu_G) (o : Nat) (a3 : Int32) (a4 : Int32) (υ : hu_S) (Q : hu_S → Prop) : Prop := hu_cv υ (hw_J7_init_2 g o a3 a4) (fun τ6 => (Q τ6))
set_option maxHeartbeats 4000000 in
set_option maxRecDepth 100000 in
theorem hk_J8_init_2 (l : Launch) (g : hu_G) (o : Nat) (a3 : Int32) (a4 : Int32) {υ : hu_S} {Q : hu_S → Prop} (hf : hw_J8_init_2 g o a3 a4 υ Q) : Met l yJ8_init_2 (ws_ yJ8_init_2 cJ8_init_2 5 none) (hu_R 2 44 υ.2.1 υ.2.2) (va_Pc [.ref o, .null, .null, .int a3, .int a4] (hu_U g υ)) (va_Qv Q (hu_B g) (hg_A g)) υ.2.1 υ.2.2 (hg_A g) := by
  refine hu_Mv (LV := [(0, .ref o), (1, .null), (2, .null), (3, .int a3), (4, .int a4)]) (by decide) rfl (Nat.le_of_ble_eq_true rfl) (fun p e s m args below meth c H locs cells slots ls QQ C M hin hl hret => ?_)
  have hx := C.1.1
  have hb := C.1.2.1
  unfold hw_J8_init_2 at hf
  refine lv_aload_n hx hb dJ8_init_2_0 rfl (lv_at hl 0 rfl) ?_
  refine lv_aload_nN hx hb dJ8_init_2_1 rfl (lv_at hl 1 rfl) ?_
  refine lv_aload_nN hx hb dJ8_init_2_2 rfl (lv_at hl 2 rfl) ?_
  refine lv_iload_n hx hb dJ8_init_2_3 rfl (lv_at hl 3 rfl) ?_
  refine lv_iload hx hb dJ8_init_2_4 (lv_at hl 4 rfl) ?_
  obtain ⟨cc_6, cs_6, h1_6, h2_6, hf⟩ := hf
  refine hu_kv M h1_6 h2_6 (hu_rI C M hl.1 (Nat.le_refl _) (Nat.le_refl _) h1_6 h2_6 (As := [.null, .null, .int a3, .int a4]) (rest := []) (n := 4) (hk_J7_init_2 l g o a3 a4 (υ := (υ.1, cc_6, cs_6)) hf) rfl q871 q872 q135 q873 (by decide +kernel) rfl ⟨Nat.le_of_ble_eq_true rfl, Nat.le_of_ble_eq_true rfl⟩ rfl (Nat.le_of_ble_eq_true rfl) dJ8_init_2_6) (fun u9 H locs hf M => ?_)
  generalize (u9.1, υ.2.1 - cc_6, υ.2.2 - cs_6) = τ6 at M hf
  generalize cells + cc_6 = cells at M ⊢
  generalize slots + cs_6 = slots at M ⊢
  exact hret _ _ _ _ _ _ _ dJ8_init_2_9 M hf
def hw_X8_init (g : hu_G) (o : Nat) (a1 : Int32) (a2 : Int32) (υ : hu_S) (Q : hu_S → Prop) : Prop := hu_cv υ (hw_J8_init_2 g o 0 0) (fun τ5 => (hu_pt τ5 o 27 6 (.int a1) (fun τ10 => (hu_pt τ10 o 27 7 (.int a2) (fun τ15 => (Q τ15))))))
set_option maxHeartbeats 4000000 in
set_option maxRecDepth 100000 in
theorem hk_X8_init (l : Launch) (g : hu_G) (o : Nat) (a1 : Int32) (a2 : Int32) {υ : hu_S} {Q : hu_S → Prop} (hf : hw_X8_init g o a1 a2 υ Q) : Met l yX8_init (ws_ yX8_init cX8_init 3 none) (hu_R 3 68 υ.2.1 υ.2.2) (va_Pc [.ref o, .int a1, .int a2] (hu_U g υ)) (va_Qv Q (hu_B g) (hg_A g)) υ.2.1 υ.2.2 (hg_A g) := by
  refine hu_Mv (LV := [(0, .ref o), (1, .int a1), (2, .int a2)]) (by decide) rfl (Nat.le_of_ble_eq_true rfl) (fun p e s m args below meth c H locs cells slots ls QQ C M hin hl hret => ?_)
  have hx := C.1.1
  have hb := C.1.2.1
  unfold hw_X8_init at hf
  refine lv_aload_n hx hb dX8_init_0 rfl (lv_at hl 0 rfl) ?_
  refine lv_null hx hb dX8_init_1 ?_
  refine lv_null hx hb dX8_init_2 ?_
  refine lv_iconst (v := 0) hx hb dX8_init_3 rfl ?_
  refine lv_iconst (v := 0) hx hb dX8_init_4 rfl ?_
  obtain ⟨cc_5, cs_5, h1_5, h2_5, hf⟩ := hf
  refine hu_kv M h1_5 h2_5 (hu_rI C M hl.1 (Nat.le_refl _) (Nat.le_refl _) h1_5 h2_5 (As := [.null, .null, .int 0, .int 0]) (rest := []) (n := 4) (hk_J8_init_2 l g o 0 0 (υ := (υ.1, cc_5, cs_5)) hf) rfl q868 q869 q136 q870 (by decide +kernel) rfl ⟨Nat.le_of_ble_eq_true rfl, Nat.le_of_ble_eq_true rfl⟩ rfl (Nat.le_of_ble_eq_true rfl) dX8_init_5) (fun u9 H locs hf M => ?_)
  generalize (u9.1, υ.2.1 - cc_5, υ.2.2 - cs_5) = τ5 at M hf
  generalize cells + cc_5 = cells at M ⊢
  generalize slots + cs_5 = slots at M ⊢
  refine lv_aload_n hx hb dX8_init_8 rfl (lv_at hl 0 rfl) ?_
  refine lv_iload_n hx hb dX8_init_9 rfl (lv_at hl 1 rfl) ?_
  obtain ⟨g_10, hf⟩ := hf
  refine hu_putF C M g_10 (CN := RX8) (T := TX8) (N := 8) rfl in_X8 tyX8 tyX8_ok nmX8 (by decide) q874 rfl hin rfl (ty := .int) (by decide +kernel) rfl rfl dX8_init_10 (fun H locs M => ?_)
  generalize hu_put τ5 o 6 (.int a1) = τ10 at M hf
  refine lv_aload_n hx hb dX8_init_13 rfl (lv_at hl 0 rfl) ?_
  refine lv_iload_n hx hb dX8_init_14 rfl (lv_at hl 2 rfl) ?_
  obtain ⟨g_15, hf⟩ := hf
  refine hu_putF C M g_15 (CN := RX8) (T := TX8) (N := 8) rfl in_X8 tyX8 tyX8_ok nmX8 (by decide) q876 rfl hin rfl (ty := .int) (by decide +kernel) rfl rfl dX8_init_15 (fun H locs M => ?_)
  generalize hu_put τ10 o 7 (.int a2) = τ15 at M hf
  exact hret _ _ _ _ _ _ _ dX8_init_18 M hf
def hw_X6_byteAt (g : hu_G) (ci : Nat) (o : Nat) (a1 : Int32) (υ : hu_S) (Q : Int32 → hu_S → Prop) : Prop := hu_gi g υ o ci 1 (fun x2 => ((x2 ≤ a1 → Q 0 υ) ∧ (¬ x2 ≤ a1 → hu_gr g υ o ci 0 (fun x9 => (hu_gb g υ x9 a1 (fun b13 => (Q (b13 &&& 255) υ)))))))
set_option maxHeartbeats 4000000 in
set_option maxRecDepth 100000 in
theorem hk_X6_byteAt_26 (l : Launch) (g : hu_G) (o : Nat) (a1 : Int32) {υ : hu_S} {Q : Int32 → hu_S → Prop} (hf : hw_X6_byteAt g 26 o a1 υ Q) : Met l yX6_byteAt (ws_ yX6_byteAt cX6_byteAt 2 (some .int)) (hu_R 0 0 υ.2.1 υ.2.2) (va_Pc [.ref o, .int a1] (hu_U g υ)) (va_Qi Q (hu_B g) (hg_A g)) υ.2.1 υ.2.2 (hg_A g) := by
  refine hu_Mi (LV := [(0, .ref o), (1, .int a1)]) (by decide) rfl (Nat.le_of_ble_eq_true rfl) (fun p e s m args below meth c H locs cells slots ls QQ C M hin hl hret => ?_)
  have hx := C.1.1
  have hb := C.1.2.1
  unfold hw_X6_byteAt at hf
  refine lv_iload_n hx hb dX6_byteAt_0 rfl (lv_at hl 1 rfl) ?_
  refine lv_aload_n hx hb dX6_byteAt_1 rfl (lv_at hl 0 rfl) ?_
  obtain ⟨x2, e_2, hf⟩ := hf
  refine hu_get C M e_2 (CN := RX7) (T := TX7) (N := 11) rfl in_X7 (by decide) q577 dX6_byteAt_2 ?_
  obtain ⟨hft, hff⟩ := hf
  refine lv_icmp_ge (tgt := 21) hx hb dX6_byteAt_5 (by decide) (fun c1 => ?_) (fun c1 => ?_)
  · have hf := hft c1
    refine lv_iconst (v := 0) hx hb dX6_byteAt_21 rfl ?_
    exact hret _ _ _ _ _ _ _ _ dX6_byteAt_22 M hf
  · have hf := hff c1
    refine lv_aload_n hx hb dX6_byteAt_8 rfl (lv_at hl 0 rfl) ?_
    obtain ⟨x9, e_9, hf⟩ := hf
    refine hu_get C M e_9 (CN := RX7) (T := TX7) (N := 11) rfl in_X7 (by decide) q576 dX6_byteAt_9 ?_
    refine lv_iload_n hx hb dX6_byteAt_12 rfl (lv_at hl 1 rfl) ?_
    obtain ⟨nn_13, ff_13, e_13, i_13, hf⟩ := hf
    refine hu_bald C M e_13 i_13 dX6_byteAt_13 ?_
    generalize ff_13 (Int32.toNatClampNeg a1) = b13 at hf ⊢
    refine lv_sipush (v := 255) hx hb dX6_byteAt_14 rfl ?_
    refine lv_iand hx hb dX6_byteAt_17 ?_
    refine lv_goto (tgt := 22) hx hb dX6_byteAt_18 (by decide) ?_
    exact hret _ _ _ _ _ _ _ _ dX6_byteAt_22 M hf
set_option maxHeartbeats 4000000 in
set_option maxRecDepth 100000 in
theorem hk_X6_byteAt_16 (l : Launch) (g : hu_G) (o : Nat) (a1 : Int32) {υ : hu_S} {Q : Int32 → hu_S → Prop} (hf : hw_X6_byteAt g 16 o a1 υ Q) : Met l yX6_byteAt (ws_ yX6_byteAt cX6_byteAt 2 (some .int)) (hu_R 0 0 υ.2.1 υ.2.2) (va_Pc [.ref o, .int a1] (hu_U g υ)) (va_Qi Q (hu_B g) (hg_A g)) υ.2.1 υ.2.2 (hg_A g) := by
  refine hu_Mi (LV := [(0, .ref o), (1, .int a1)]) (by decide) rfl (Nat.le_of_ble_eq_true rfl) (fun p e s m args below meth c H locs cells slots ls QQ C M hin hl hret => ?_)
  have hx := C.1.1
  have hb := C.1.2.1
  unfold hw_X6_byteAt at hf
  refine lv_iload_n hx hb dX6_byteAt_0 rfl (lv_at hl 1 rfl) ?_
  refine lv_aload_n hx hb dX6_byteAt_1 rfl (lv_at hl 0 rfl) ?_
  obtain ⟨x2, e_2, hf⟩ := hf
  refine hu_get C M e_2 (CN := RX20) (T := TX20) (N := 11) rfl in_X20 (by decide) q577 dX6_byteAt_2 ?_
  obtain ⟨hft, hff⟩ := hf
  refine lv_icmp_ge (tgt := 21) hx hb dX6_byteAt_5 (by decide) (fun c1 => ?_) (fun c1 => ?_)
  · have hf := hft c1
    refine lv_iconst (v := 0) hx hb dX6_byteAt_21 rfl ?_
    exact hret _ _ _ _ _ _ _ _ dX6_byteAt_22 M hf
  · have hf := hff c1
    refine lv_aload_n hx hb dX6_byteAt_8 rfl (lv_at hl 0 rfl) ?_
    obtain ⟨x9, e_9, hf⟩ := hf
    refine hu_get C M e_9 (CN := RX20) (T := TX20) (N := 11) rfl in_X20 (by decide) q576 dX6_byteAt_9 ?_
    refine lv_iload_n hx hb dX6_byteAt_12 rfl (lv_at hl 1 rfl) ?_
    obtain ⟨nn_13, ff_13, e_13, i_13, hf⟩ := hf
    refine hu_bald C M e_13 i_13 dX6_byteAt_13 ?_
    generalize ff_13 (Int32.toNatClampNeg a1) = b13 at hf ⊢
    refine lv_sipush (v := 255) hx hb dX6_byteAt_14 rfl ?_
    refine lv_iand hx hb dX6_byteAt_17 ?_
    refine lv_goto (tgt := 22) hx hb dX6_byteAt_18 (by decide) ?_
    exact hret _ _ _ _ _ _ _ _ dX6_byteAt_22 M hf
set_option maxHeartbeats 4000000 in
set_option maxRecDepth 100000 in
theorem hk_X6_byteAt_18 (l : Launch) (g : hu_G) (o : Nat) (a1 : Int32) {υ : hu_S} {Q : Int32 → hu_S → Prop} (hf : hw_X6_byteAt g 18 o a1 υ Q) : Met l yX6_byteAt (ws_ yX6_byteAt cX6_byteAt 2 (some .int)) (hu_R 0 0 υ.2.1 υ.2.2) (va_Pc [.ref o, .int a1] (hu_U g υ)) (va_Qi Q (hu_B g) (hg_A g)) υ.2.1 υ.2.2 (hg_A g) := by
  refine hu_Mi (LV := [(0, .ref o), (1, .int a1)]) (by decide) rfl (Nat.le_of_ble_eq_true rfl) (fun p e s m args below meth c H locs cells slots ls QQ C M hin hl hret => ?_)
  have hx := C.1.1
  have hb := C.1.2.1
  unfold hw_X6_byteAt at hf
  refine lv_iload_n hx hb dX6_byteAt_0 rfl (lv_at hl 1 rfl) ?_
  refine lv_aload_n hx hb dX6_byteAt_1 rfl (lv_at hl 0 rfl) ?_
  obtain ⟨x2, e_2, hf⟩ := hf
  refine hu_get C M e_2 (CN := RX22) (T := TX22) (N := 12) rfl in_X22 (by decide) q577 dX6_byteAt_2 ?_
  obtain ⟨hft, hff⟩ := hf
  refine lv_icmp_ge (tgt := 21) hx hb dX6_byteAt_5 (by decide) (fun c1 => ?_) (fun c1 => ?_)
  · have hf := hft c1
    refine lv_iconst (v := 0) hx hb dX6_byteAt_21 rfl ?_
    exact hret _ _ _ _ _ _ _ _ dX6_byteAt_22 M hf
  · have hf := hff c1
    refine lv_aload_n hx hb dX6_byteAt_8 rfl (lv_at hl 0 rfl) ?_
    obtain ⟨x9, e_9, hf⟩ := hf
    refine hu_get C M e_9 (CN := RX22) (T := TX22) (N := 12) rfl in_X22 (by decide) q576 dX6_byteAt_9 ?_
    refine lv_iload_n hx hb dX6_byteAt_12 rfl (lv_at hl 1 rfl) ?_
    obtain ⟨nn_13, ff_13, e_13, i_13, hf⟩ := hf
    refine hu_bald C M e_13 i_13 dX6_byteAt_13 ?_
    generalize ff_13 (Int32.toNatClampNeg a1) = b13 at hf ⊢
    refine lv_sipush (v := 255) hx hb dX6_byteAt_14 rfl ?_
    refine lv_iand hx hb dX6_byteAt_17 ?_
    refine lv_goto (tgt := 22) hx hb dX6_byteAt_18 (by decide) ?_
    exact hret _ _ _ _ _ _ _ _ dX6_byteAt_22 M hf
def hw_X6_is (g : hu_G) (ci : Nat) (o : Nat) (a1 : Nat) (υ : hu_S) (Q : Int32 → hu_S → Prop) : Prop := hu_gi g υ o ci 5 (fun x1 => ((¬ x1 = 2 → Q 0 υ) ∧ (x1 = 2 → hu_gr g υ o ci 9 (fun x9 => (hu_k g υ x9 3 ∧ (hu_c υ (hw_J13_equals g x9 a1) (fun r13 τ13 => ((r13 = 0 → Q 0 τ13) ∧ (¬ r13 = 0 → Q 1 τ13)))))))))
set_option maxHeartbeats 4000000 in
set_option maxRecDepth 100000 in
theorem hk_X6_is_26 (l : Launch) (g : hu_G) (o : Nat) (a1 : Nat) {υ : hu_S} {Q : Int32 → hu_S → Prop} (hf : hw_X6_is g 26 o a1 υ Q) : Met l yX6_is (ws_ yX6_is cX6_is 2 (some .boolean)) (hu_R 2 44 υ.2.1 υ.2.2) (va_Pc [.ref o, .ref a1] (hu_U g υ)) (va_Qi Q (hu_B g) (hg_A g)) υ.2.1 υ.2.2 (hg_A g) := by
  refine hu_Mz (LV := [(0, .ref o), (1, .ref a1)]) (by decide) rfl (Nat.le_of_ble_eq_true rfl) (fun p e s m args below meth c H locs cells slots ls QQ C M hin hl hret => ?_)
  have hx := C.1.1
  have hb := C.1.2.1
  unfold hw_X6_is at hf
  refine lv_aload_n hx hb dX6_is_0 rfl (lv_at hl 0 rfl) ?_
  obtain ⟨x1, e_1, hf⟩ := hf
  refine hu_get C M e_1 (CN := RX7) (T := TX7) (N := 11) rfl in_X7 (by decide) q589 dX6_is_1 ?_
  refine lv_iconst (v := 2) hx hb dX6_is_4 rfl ?_
  obtain ⟨hft, hff⟩ := hf
  refine lv_icmp_ne (tgt := 23) hx hb dX6_is_5 (by decide) (fun c1 => ?_) (fun c1 => ?_)
  · have hf := hft c1
    refine lv_iconst (v := 0) hx hb dX6_is_23 rfl ?_
    exact hret _ _ _ _ _ _ _ _ dX6_is_24 M hb_B0 hf
  · have hf := hff c1
    refine lv_aload_n hx hb dX6_is_8 rfl (lv_at hl 0 rfl) ?_
    obtain ⟨x9, e_9, hf⟩ := hf
    refine hu_get C M e_9 (CN := RX7) (T := TX7) (N := 11) rfl in_X7 (by decide) q595 dX6_is_9 ?_
    refine lv_aload_n hx hb dX6_is_12 rfl (lv_at hl 1 rfl) ?_
    obtain ⟨g_13, hf⟩ := hf
    obtain ⟨cc_13, cs_13, h1_13, h2_13, hf⟩ := hf
    refine hu_ki M h1_13 h2_13 (hu_rV C M hl.1 (Nat.le_refl _) (Nat.le_refl _) h1_13 h2_13 g_13 rfl (As := [.ref a1]) (rest := []) (n := 1) (hk_J13_equals l g x9 a1 (υ := (υ.1, cc_13, cs_13)) hf) q837 q838 q839 q145 q840 rfl (by decide +kernel) rfl ⟨Nat.le_of_ble_eq_true rfl, Nat.le_of_ble_eq_true rfl⟩ rfl (Nat.le_of_ble_eq_true rfl) dX6_is_13) (fun r13 u9 H locs hf M => ?_)
    generalize (u9.1, υ.2.1 - cc_13, υ.2.2 - cs_13) = τ13 at M hf
    generalize cells + cc_13 = cells at M ⊢
    generalize slots + cs_13 = slots at M ⊢
    obtain ⟨hft, hff⟩ := hf
    refine lv_if_eq (tgt := 23) hx hb dX6_is_16 (by decide) (fun c1 => ?_) (fun c1 => ?_)
    · have hf := hft c1
      refine lv_iconst (v := 0) hx hb dX6_is_23 rfl ?_
      exact hret _ _ _ _ _ _ _ _ dX6_is_24 M hb_B0 hf
    · have hf := hff c1
      refine lv_iconst (v := 1) hx hb dX6_is_19 rfl ?_
      refine lv_goto (tgt := 24) hx hb dX6_is_20 (by decide) ?_
      exact hret _ _ _ _ _ _ _ _ dX6_is_24 M hb_B1 hf
set_option maxHeartbeats 4000000 in
set_option maxRecDepth 100000 in
theorem hk_X6_is_16 (l : Launch) (g : hu_G) (o : Nat) (a1 : Nat) {υ : hu_S} {Q : Int32 → hu_S → Prop} (hf : hw_X6_is g 16 o a1 υ Q) : Met l yX6_is (ws_ yX6_is cX6_is 2 (some .boolean)) (hu_R 2 44 υ.2.1 υ.2.2) (va_Pc [.ref o, .ref a1] (hu_U g υ)) (va_Qi Q (hu_B g) (hg_A g)) υ.2.1 υ.2.2 (hg_A g) := by
  refine hu_Mz (LV := [(0, .ref o), (1, .ref a1)]) (by decide) rfl (Nat.le_of_ble_eq_true rfl) (fun p e s m args below meth c H locs cells slots ls QQ C M hin hl hret => ?_)
  have hx := C.1.1
  have hb := C.1.2.1
  unfold hw_X6_is at hf
  refine lv_aload_n hx hb dX6_is_0 rfl (lv_at hl 0 rfl) ?_
  obtain ⟨x1, e_1, hf⟩ := hf
  refine hu_get C M e_1 (CN := RX20) (T := TX20) (N := 11) rfl in_X20 (by decide) q589 dX6_is_1 ?_
  refine lv_iconst (v := 2) hx hb dX6_is_4 rfl ?_
  obtain ⟨hft, hff⟩ := hf
  refine lv_icmp_ne (tgt := 23) hx hb dX6_is_5 (by decide) (fun c1 => ?_) (fun c1 => ?_)
  · have hf := hft c1
    refine lv_iconst (v := 0) hx hb dX6_is_23 rfl ?_
    exact hret _ _ _ _ _ _ _ _ dX6_is_24 M hb_B0 hf
  · have hf := hff c1
    refine lv_aload_n hx hb dX6_is_8 rfl (lv_at hl 0 rfl) ?_
    obtain ⟨x9, e_9, hf⟩ := hf
    refine hu_get C M e_9 (CN := RX20) (T := TX20) (N := 11) rfl in_X20 (by decide) q595 dX6_is_9 ?_
    refine lv_aload_n hx hb dX6_is_12 rfl (lv_at hl 1 rfl) ?_
    obtain ⟨g_13, hf⟩ := hf
    obtain ⟨cc_13, cs_13, h1_13, h2_13, hf⟩ := hf
    refine hu_ki M h1_13 h2_13 (hu_rV C M hl.1 (Nat.le_refl _) (Nat.le_refl _) h1_13 h2_13 g_13 rfl (As := [.ref a1]) (rest := []) (n := 1) (hk_J13_equals l g x9 a1 (υ := (υ.1, cc_13, cs_13)) hf) q837 q838 q839 q145 q840 rfl (by decide +kernel) rfl ⟨Nat.le_of_ble_eq_true rfl, Nat.le_of_ble_eq_true rfl⟩ rfl (Nat.le_of_ble_eq_true rfl) dX6_is_13) (fun r13 u9 H locs hf M => ?_)
    generalize (u9.1, υ.2.1 - cc_13, υ.2.2 - cs_13) = τ13 at M hf
    generalize cells + cc_13 = cells at M ⊢
    generalize slots + cs_13 = slots at M ⊢
    obtain ⟨hft, hff⟩ := hf
    refine lv_if_eq (tgt := 23) hx hb dX6_is_16 (by decide) (fun c1 => ?_) (fun c1 => ?_)
    · have hf := hft c1
      refine lv_iconst (v := 0) hx hb dX6_is_23 rfl ?_
      exact hret _ _ _ _ _ _ _ _ dX6_is_24 M hb_B0 hf
    · have hf := hff c1
      refine lv_iconst (v := 1) hx hb dX6_is_19 rfl ?_
      refine lv_goto (tgt := 24) hx hb dX6_is_20 (by decide) ?_
      exact hret _ _ _ _ _ _ _ _ dX6_is_24 M hb_B1 hf
set_option maxHeartbeats 4000000 in
set_option maxRecDepth 100000 in
theorem hk_X6_is_18 (l : Launch) (g : hu_G) (o : Nat) (a1 : Nat) {υ : hu_S} {Q : Int32 → hu_S → Prop} (hf : hw_X6_is g 18 o a1 υ Q) : Met l yX6_is (ws_ yX6_is cX6_is 2 (some .boolean)) (hu_R 2 44 υ.2.1 υ.2.2) (va_Pc [.ref o, .ref a1] (hu_U g υ)) (va_Qi Q (hu_B g) (hg_A g)) υ.2.1 υ.2.2 (hg_A g) := by
  refine hu_Mz (LV := [(0, .ref o), (1, .ref a1)]) (by decide) rfl (Nat.le_of_ble_eq_true rfl) (fun p e s m args below meth c H locs cells slots ls QQ C M hin hl hret => ?_)
  have hx := C.1.1
  have hb := C.1.2.1
  unfold hw_X6_is at hf
  refine lv_aload_n hx hb dX6_is_0 rfl (lv_at hl 0 rfl) ?_
  obtain ⟨x1, e_1, hf⟩ := hf
  refine hu_get C M e_1 (CN := RX22) (T := TX22) (N := 12) rfl in_X22 (by decide) q589 dX6_is_1 ?_
  refine lv_iconst (v := 2) hx hb dX6_is_4 rfl ?_
  obtain ⟨hft, hff⟩ := hf
  refine lv_icmp_ne (tgt := 23) hx hb dX6_is_5 (by decide) (fun c1 => ?_) (fun c1 => ?_)
  · have hf := hft c1
    refine lv_iconst (v := 0) hx hb dX6_is_23 rfl ?_
    exact hret _ _ _ _ _ _ _ _ dX6_is_24 M hb_B0 hf
  · have hf := hff c1
    refine lv_aload_n hx hb dX6_is_8 rfl (lv_at hl 0 rfl) ?_
    obtain ⟨x9, e_9, hf⟩ := hf
    refine hu_get C M e_9 (CN := RX22) (T := TX22) (N := 12) rfl in_X22 (by decide) q595 dX6_is_9 ?_
    refine lv_aload_n hx hb dX6_is_12 rfl (lv_at hl 1 rfl) ?_
    obtain ⟨g_13, hf⟩ := hf
    obtain ⟨cc_13, cs_13, h1_13, h2_13, hf⟩ := hf
    refine hu_ki M h1_13 h2_13 (hu_rV C M hl.1 (Nat.le_refl _) (Nat.le_refl _) h1_13 h2_13 g_13 rfl (As := [.ref a1]) (rest := []) (n := 1) (hk_J13_equals l g x9 a1 (υ := (υ.1, cc_13, cs_13)) hf) q837 q838 q839 q145 q840 rfl (by decide +kernel) rfl ⟨Nat.le_of_ble_eq_true rfl, Nat.le_of_ble_eq_true rfl⟩ rfl (Nat.le_of_ble_eq_true rfl) dX6_is_13) (fun r13 u9 H locs hf M => ?_)
    generalize (u9.1, υ.2.1 - cc_13, υ.2.2 - cs_13) = τ13 at M hf
    generalize cells + cc_13 = cells at M ⊢
    generalize slots + cs_13 = slots at M ⊢
    obtain ⟨hft, hff⟩ := hf
    refine lv_if_eq (tgt := 23) hx hb dX6_is_16 (by decide) (fun c1 => ?_) (fun c1 => ?_)
    · have hf := hft c1
      refine lv_iconst (v := 0) hx hb dX6_is_23 rfl ?_
      exact hret _ _ _ _ _ _ _ _ dX6_is_24 M hb_B0 hf
    · have hf := hff c1
      refine lv_iconst (v := 1) hx hb dX6_is_19 rfl ?_
      refine lv_goto (tgt := 24) hx hb dX6_is_20 (by decide) ?_
      exact hret _ _ _ _ _ _ _ _ dX6_is_24 M hb_B1 hf
def hw_X6_isName (g : hu_G) (ci : Nat) (o : Nat) (υ : hu_S) (Q : Int32 → hu_S → Prop) : Prop := hu_gi g υ o ci 5 (fun x1 => ((¬ x1 = 2 → Q 0 υ) ∧ (x1 = 2 → hu_mk g υ (.inr (2, [.null, .int 0, .int 0, .int 0])) 4 (fun q10 τ10 => (hu_cv τ10 (hw_J12_init g q10) (fun τ14 => (hu_k g τ14 q10 2 ∧ (hu_c τ14 (hw_J12_append_2 g q10 (hg_l g 26)) (fun r19 τ19 => (hu_gr g τ19 o ci 9 (fun x23 => (hu_k g τ19 r19 2 ∧ (hu_c τ19 (hw_J12_append_2 g r19 x23) (fun r26 τ26 => (hu_k g τ26 r26 2 ∧ (hu_c τ26 (hw_J12_append_2 g r26 (hg_l g 26)) (fun r31 τ31 => (hu_k g τ31 r31 2 ∧ (hu_c τ31 (hw_J12_toString g r31) (fun r34 τ34 => (hu_k g τ34 (hg_l g 25) 3 ∧ (hu_c τ34 (hw_J13_indexOf g (hg_l g 25) r34) (fun r37 τ37 => ((0 ≤ r37 → Q 0 τ37) ∧ (¬ 0 ≤ r37 → Q 1 τ37)))))))))))))))))))))))))
set_option maxHeartbeats 4000000 in
set_option maxRecDepth 100000 in
theorem hk_X6_isName_26 (l : Launch) (g : hu_G) (o : Nat) {υ : hu_S} {Q : Int32 → hu_S → Prop} (hf : hw_X6_isName g 26 o υ Q) : Met l yX6_isName (ws_ yX6_isName cX6_isName 1 (some .boolean)) (hu_R 6 151 υ.2.1 υ.2.2) (va_Pc [.ref o] (hu_U g υ)) (va_Qi Q (hu_B g) (hg_A g)) υ.2.1 υ.2.2 (hg_A g) := by
  refine hu_Mz (LV := [(0, .ref o)]) (by decide) rfl (Nat.le_of_ble_eq_true rfl) (fun p e s m args below meth c H locs cells slots ls QQ C M hin hl hret => ?_)
  have hx := C.1.1
  have hb := C.1.2.1
  unfold hw_X6_isName at hf
  refine lv_aload_n hx hb dX6_isName_0 rfl (lv_at hl 0 rfl) ?_
  obtain ⟨x1, e_1, hf⟩ := hf
  refine hu_get C M e_1 (CN := RX7) (T := TX7) (N := 11) rfl in_X7 (by decide) q589 dX6_isName_1 ?_
  refine lv_iconst (v := 2) hx hb dX6_isName_4 rfl ?_
  obtain ⟨hft, hff⟩ := hf
  refine lv_icmp_ne (tgt := 47) hx hb dX6_isName_5 (by decide) (fun c1 => ?_) (fun c1 => ?_)
  · have hf := hft c1
    refine lv_iconst (v := 0) hx hb dX6_isName_47 rfl ?_
    exact hret _ _ _ _ _ _ _ _ dX6_isName_48 M hb_B0 hf
  · have hf := hff c1
    refine va_ldcS hx hb C.1.2.2.2.1 (M.2.2.2.2.1.1 25 _ rfl) dX6_isName_8 ?_
    obtain ⟨m1_10, m2_10, hf⟩ := hf
    refine hu_newO C M (Nat.le_refl _) (Nat.le_refl _) (CN := RJ12) (T := TJ12) (N := 4) (ci := 2) (fs := [.null, .int 0, .int 0, .int 0]) in_J12 tyJ12 tyJ12_ok q641 q642 q144 rfl (fun j hj => by rcases (show j = 0 ∨ j = 1 ∨ j = 2 ∨ j = 3 by omega) with rfl | rfl | rfl | rfl <;> rfl) m1_10 m2_10 dX6_isName_10 (fun q10 H f_10 M => ?_)
    have hf := hf q10 f_10
    generalize hu_new _ _ _ _ = τ10 at M hf
    generalize cells + 1 = cells at M ⊢
    generalize slots + 4 = slots at M ⊢
    refine lv_dup hx hb dX6_isName_13 rfl ?_
    obtain ⟨cc_14, cs_14, h1_14, h2_14, hf⟩ := hf
    refine hu_kv M h1_14 h2_14 (hu_rI C M hl.1 (Nat.le_refl _) (Nat.le_refl _) h1_14 h2_14 (As := []) (rest := [.ref q10, .ref (hg_l g 25)]) (n := 0) (hk_J12_init l g q10 (υ := (τ10.1, cc_14, cs_14)) hf) rfl q643 q644 q144 q645 (by decide +kernel) rfl ⟨Nat.le_of_ble_eq_true rfl, Nat.le_of_ble_eq_true rfl⟩ rfl (Nat.le_of_ble_eq_true rfl) dX6_isName_14) (fun u9 H locs hf M => ?_)
    generalize (u9.1, τ10.2.1 - cc_14, τ10.2.2 - cs_14) = τ14 at M hf
    generalize cells + cc_14 = cells at M ⊢
    generalize slots + cs_14 = slots at M ⊢
    refine va_ldcS hx hb C.1.2.2.2.1 (M.2.2.2.2.1.1 26 _ rfl) dX6_isName_17 ?_
    obtain ⟨g_19, hf⟩ := hf
    obtain ⟨cc_19, cs_19, h1_19, h2_19, hf⟩ := hf
    refine hu_kr M h1_19 h2_19 (hu_rV C M hl.1 (Nat.le_refl _) (Nat.le_refl _) h1_19 h2_19 g_19 rfl (As := [.ref (hg_l g 26)]) (rest := [.ref (hg_l g 25)]) (n := 1) (hk_J12_append_2 l g q10 (hg_l g 26) (υ := (τ14.1, cc_19, cs_19)) hf) q892 q893 q894 q144 q895 rfl (by decide +kernel) rfl ⟨Nat.le_of_ble_eq_true rfl, Nat.le_of_ble_eq_true rfl⟩ rfl (Nat.le_of_ble_eq_true rfl) dX6_isName_19) (fun r19 u9 H locs hf M => ?_)
    generalize (u9.1, τ14.2.1 - cc_19, τ14.2.2 - cs_19) = τ19 at M hf
    generalize cells + cc_19 = cells at M ⊢
    generalize slots + cs_19 = slots at M ⊢
    refine lv_aload_n hx hb dX6_isName_22 rfl (lv_at hl 0 rfl) ?_
    obtain ⟨x23, e_23, hf⟩ := hf
    refine hu_get C M e_23 (CN := RX7) (T := TX7) (N := 11) rfl in_X7 (by decide) q595 dX6_isName_23 ?_
    obtain ⟨g_26, hf⟩ := hf
    obtain ⟨cc_26, cs_26, h1_26, h2_26, hf⟩ := hf
    refine hu_kr M h1_26 h2_26 (hu_rV C M hl.1 (Nat.le_refl _) (Nat.le_refl _) h1_26 h2_26 g_26 rfl (As := [.ref x23]) (rest := [.ref (hg_l g 25)]) (n := 1) (hk_J12_append_2 l g r19 x23 (υ := (τ19.1, cc_26, cs_26)) hf) q892 q893 q894 q144 q895 rfl (by decide +kernel) rfl ⟨Nat.le_of_ble_eq_true rfl, Nat.le_of_ble_eq_true rfl⟩ rfl (Nat.le_of_ble_eq_true rfl) dX6_isName_26) (fun r26 u9 H locs hf M => ?_)
    generalize (u9.1, τ19.2.1 - cc_26, τ19.2.2 - cs_26) = τ26 at M hf
    generalize cells + cc_26 = cells at M ⊢
    generalize slots + cs_26 = slots at M ⊢
    refine va_ldcS hx hb C.1.2.2.2.1 (M.2.2.2.2.1.1 26 _ rfl) dX6_isName_29 ?_
    obtain ⟨g_31, hf⟩ := hf
    obtain ⟨cc_31, cs_31, h1_31, h2_31, hf⟩ := hf
    refine hu_kr M h1_31 h2_31 (hu_rV C M hl.1 (Nat.le_refl _) (Nat.le_refl _) h1_31 h2_31 g_31 rfl (As := [.ref (hg_l g 26)]) (rest := [.ref (hg_l g 25)]) (n := 1) (hk_J12_append_2 l g r26 (hg_l g 26) (υ := (τ26.1, cc_31, cs_31)) hf) q892 q893 q894 q144 q895 rfl (by decide +kernel) rfl ⟨Nat.le_of_ble_eq_true rfl, Nat.le_of_ble_eq_true rfl⟩ rfl (Nat.le_of_ble_eq_true rfl) dX6_isName_31) (fun r31 u9 H locs hf M => ?_)
    generalize (u9.1, τ26.2.1 - cc_31, τ26.2.2 - cs_31) = τ31 at M hf
    generalize cells + cc_31 = cells at M ⊢
    generalize slots + cs_31 = slots at M ⊢
    obtain ⟨g_34, hf⟩ := hf
    obtain ⟨cc_34, cs_34, h1_34, h2_34, hf⟩ := hf
    refine hu_kr M h1_34 h2_34 (hu_rV C M hl.1 (Nat.le_refl _) (Nat.le_refl _) h1_34 h2_34 g_34 rfl (As := []) (rest := [.ref (hg_l g 25)]) (n := 0) (hk_J12_toString l g r31 (υ := (τ31.1, cc_34, cs_34)) hf) q765 q766 q767 q144 q768 rfl (by decide +kernel) rfl ⟨Nat.le_of_ble_eq_true rfl, Nat.le_of_ble_eq_true rfl⟩ rfl (Nat.le_of_ble_eq_true rfl) dX6_isName_34) (fun r34 u9 H locs hf M => ?_)
    generalize (u9.1, τ31.2.1 - cc_34, τ31.2.2 - cs_34) = τ34 at M hf
    generalize cells + cc_34 = cells at M ⊢
    generalize slots + cs_34 = slots at M ⊢
    obtain ⟨g_37, hf⟩ := hf
    obtain ⟨cc_37, cs_37, h1_37, h2_37, hf⟩ := hf
    refine hu_ki M h1_37 h2_37 (hu_rV C M hl.1 (Nat.le_refl _) (Nat.le_refl _) h1_37 h2_37 g_37 rfl (As := [.ref r34]) (rest := []) (n := 1) (hk_J13_indexOf l g (hg_l g 25) r34 (υ := (τ34.1, cc_37, cs_37)) hf) q938 q939 q940 q145 q941 rfl (by decide +kernel) rfl ⟨Nat.le_of_ble_eq_true rfl, Nat.le_of_ble_eq_true rfl⟩ rfl (Nat.le_of_ble_eq_true rfl) dX6_isName_37) (fun r37 u9 H locs hf M => ?_)
    generalize (u9.1, τ34.2.1 - cc_37, τ34.2.2 - cs_37) = τ37 at M hf
    generalize cells + cc_37 = cells at M ⊢
    generalize slots + cs_37 = slots at M ⊢
    obtain ⟨hft, hff⟩ := hf
    refine lv_if_ge (tgt := 47) hx hb dX6_isName_40 (by decide) (fun c1 => ?_) (fun c1 => ?_)
    · have hf := hft c1
      refine lv_iconst (v := 0) hx hb dX6_isName_47 rfl ?_
      exact hret _ _ _ _ _ _ _ _ dX6_isName_48 M hb_B0 hf
    · have hf := hff c1
      refine lv_iconst (v := 1) hx hb dX6_isName_43 rfl ?_
      refine lv_goto (tgt := 48) hx hb dX6_isName_44 (by decide) ?_
      exact hret _ _ _ _ _ _ _ _ dX6_isName_48 M hb_B1 hf
set_option maxHeartbeats 4000000 in
set_option maxRecDepth 100000 in
theorem hk_X6_isName_16 (l : Launch) (g : hu_G) (o : Nat) {υ : hu_S} {Q : Int32 → hu_S → Prop} (hf : hw_X6_isName g 16 o υ Q) : Met l yX6_isName (ws_ yX6_isName cX6_isName 1 (some .boolean)) (hu_R 6 151 υ.2.1 υ.2.2) (va_Pc [.ref o] (hu_U g υ)) (va_Qi Q (hu_B g) (hg_A g)) υ.2.1 υ.2.2 (hg_A g) := by
  refine hu_Mz (LV := [(0, .ref o)]) (by decide) rfl (Nat.le_of_ble_eq_true rfl) (fun p e s m args below meth c H locs cells slots ls QQ C M hin hl hret => ?_)
  have hx := C.1.1
  have hb := C.1.2.1
  unfold hw_X6_isName at hf
  refine lv_aload_n hx hb dX6_isName_0 rfl (lv_at hl 0 rfl) ?_
  obtain ⟨x1, e_1, hf⟩ := hf
  refine hu_get C M e_1 (CN := RX20) (T := TX20) (N := 11) rfl in_X20 (by decide) q589 dX6_isName_1 ?_
  refine lv_iconst (v := 2) hx hb dX6_isName_4 rfl ?_
  obtain ⟨hft, hff⟩ := hf
  refine lv_icmp_ne (tgt := 47) hx hb dX6_isName_5 (by decide) (fun c1 => ?_) (fun c1 => ?_)
  · have hf := hft c1
    refine lv_iconst (v := 0) hx hb dX6_isName_47 rfl ?_
    exact hret _ _ _ _ _ _ _ _ dX6_isName_48 M hb_B0 hf
  · have hf := hff c1
    refine va_ldcS hx hb C.1.2.2.2.1 (M.2.2.2.2.1.1 25 _ rfl) dX6_isName_8 ?_
    obtain ⟨m1_10, m2_10, hf⟩ := hf
    refine hu_newO C M (Nat.le_refl _) (Nat.le_refl _) (CN := RJ12) (T := TJ12) (N := 4) (ci := 2) (fs := [.null, .int 0, .int 0, .int 0]) in_J12 tyJ12 tyJ12_ok q641 q642 q144 rfl (fun j hj => by rcases (show j = 0 ∨ j = 1 ∨ j = 2 ∨ j = 3 by omega) with rfl | rfl | rfl | rfl <;> rfl) m1_10 m2_10 dX6_isName_10 (fun q10 H f_10 M => ?_)
    have hf := hf q10 f_10
    generalize hu_new _ _ _ _ = τ10 at M hf
    generalize cells + 1 = cells at M ⊢
    generalize slots + 4 = slots at M ⊢
    refine lv_dup hx hb dX6_isName_13 rfl ?_
    obtain ⟨cc_14, cs_14, h1_14, h2_14, hf⟩ := hf
    refine hu_kv M h1_14 h2_14 (hu_rI C M hl.1 (Nat.le_refl _) (Nat.le_refl _) h1_14 h2_14 (As := []) (rest := [.ref q10, .ref (hg_l g 25)]) (n := 0) (hk_J12_init l g q10 (υ := (τ10.1, cc_14, cs_14)) hf) rfl q643 q644 q144 q645 (by decide +kernel) rfl ⟨Nat.le_of_ble_eq_true rfl, Nat.le_of_ble_eq_true rfl⟩ rfl (Nat.le_of_ble_eq_true rfl) dX6_isName_14) (fun u9 H locs hf M => ?_)
    generalize (u9.1, τ10.2.1 - cc_14, τ10.2.2 - cs_14) = τ14 at M hf
    generalize cells + cc_14 = cells at M ⊢
    generalize slots + cs_14 = slots at M ⊢
    refine va_ldcS hx hb C.1.2.2.2.1 (M.2.2.2.2.1.1 26 _ rfl) dX6_isName_17 ?_
    obtain ⟨g_19, hf⟩ := hf
    obtain ⟨cc_19, cs_19, h1_19, h2_19, hf⟩ := hf
    refine hu_kr M h1_19 h2_19 (hu_rV C M hl.1 (Nat.le_refl _) (Nat.le_refl _) h1_19 h2_19 g_19 rfl (As := [.ref (hg_l g 26)]) (rest := [.ref (hg_l g 25)]) (n := 1) (hk_J12_append_2 l g q10 (hg_l g 26) (υ := (τ14.1, cc_19, cs_19)) hf) q892 q893 q894 q144 q895 rfl (by decide +kernel) rfl ⟨Nat.le_of_ble_eq_true rfl, Nat.le_of_ble_eq_true rfl⟩ rfl (Nat.le_of_ble_eq_true rfl) dX6_isName_19) (fun r19 u9 H locs hf M => ?_)
    generalize (u9.1, τ14.2.1 - cc_19, τ14.2.2 - cs_19) = τ19 at M hf
    generalize cells + cc_19 = cells at M ⊢
    generalize slots + cs_19 = slots at M ⊢
    refine lv_aload_n hx hb dX6_isName_22 rfl (lv_at hl 0 rfl) ?_
    obtain ⟨x23, e_23, hf⟩ := hf
    refine hu_get C M e_23 (CN := RX20) (T := TX20) (N := 11) rfl in_X20 (by decide) q595 dX6_isName_23 ?_
    obtain ⟨g_26, hf⟩ := hf
    obtain ⟨cc_26, cs_26, h1_26, h2_26, hf⟩ := hf
    refine hu_kr M h1_26 h2_26 (hu_rV C M hl.1 (Nat.le_refl _) (Nat.le_refl _) h1_26 h2_26 g_26 rfl (As := [.ref x23]) (rest := [.ref (hg_l g 25)]) (n := 1) (hk_J12_append_2 l g r19 x23 (υ := (τ19.1, cc_26, cs_26)) hf) q892 q893 q894 q144 q895 rfl (by decide +kernel) rfl ⟨Nat.le_of_ble_eq_true rfl, Nat.le_of_ble_eq_true rfl⟩ rfl (Nat.le_of_ble_eq_true rfl) dX6_isName_26) (fun r26 u9 H locs hf M => ?_)
    generalize (u9.1, τ19.2.1 - cc_26, τ19.2.2 - cs_26) = τ26 at M hf
    generalize cells + cc_26 = cells at M ⊢
    generalize slots + cs_26 = slots at M ⊢
    refine va_ldcS hx hb C.1.2.2.2.1 (M.2.2.2.2.1.1 26 _ rfl) dX6_isName_29 ?_
    obtain ⟨g_31, hf⟩ := hf
    obtain ⟨cc_31, cs_31, h1_31, h2_31, hf⟩ := hf
    refine hu_kr M h1_31 h2_31 (hu_rV C M hl.1 (Nat.le_refl _) (Nat.le_refl _) h1_31 h2_31 g_31 rfl (As := [.ref (hg_l g 26)]) (rest := [.ref (hg_l g 25)]) (n := 1) (hk_J12_append_2 l g r26 (hg_l g 26) (υ := (τ26.1, cc_31, cs_31)) hf) q892 q893 q894 q144 q895 rfl (by decide +kernel) rfl ⟨Nat.le_of_ble_eq_true rfl, Nat.le_of_ble_eq_true rfl⟩ rfl (Nat.le_of_ble_eq_true rfl) dX6_isName_31) (fun r31 u9 H locs hf M => ?_)
    generalize (u9.1, τ26.2.1 - cc_31, τ26.2.2 - cs_31) = τ31 at M hf
    generalize cells + cc_31 = cells at M ⊢
    generalize slots + cs_31 = slots at M ⊢
    obtain ⟨g_34, hf⟩ := hf
    obtain ⟨cc_34, cs_34, h1_34, h2_34, hf⟩ := hf
    refine hu_kr M h1_34 h2_34 (hu_rV C M hl.1 (Nat.le_refl _) (Nat.le_refl _) h1_34 h2_34 g_34 rfl (As := []) (rest := [.ref (hg_l g 25)]) (n := 0) (hk_J12_toString l g r31 (υ := (τ31.1, cc_34, cs_34)) hf) q765 q766 q767 q144 q768 rfl (by decide +kernel) rfl ⟨Nat.le_of_ble_eq_true rfl, Nat.le_of_ble_eq_true rfl⟩ rfl (Nat.le_of_ble_eq_true rfl) dX6_isName_34) (fun r34 u9 H locs hf M => ?_)
    generalize (u9.1, τ31.2.1 - cc_34, τ31.2.2 - cs_34) = τ34 at M hf
    generalize cells + cc_34 = cells at M ⊢
    generalize slots + cs_34 = slots at M ⊢
    obtain ⟨g_37, hf⟩ := hf
    obtain ⟨cc_37, cs_37, h1_37, h2_37, hf⟩ := hf
    refine hu_ki M h1_37 h2_37 (hu_rV C M hl.1 (Nat.le_refl _) (Nat.le_refl _) h1_37 h2_37 g_37 rfl (As := [.ref r34]) (rest := []) (n := 1) (hk_J13_indexOf l g (hg_l g 25) r34 (υ := (τ34.1, cc_37, cs_37)) hf) q938 q939 q940 q145 q941 rfl (by decide +kernel) rfl ⟨Nat.le_of_ble_eq_true rfl, Nat.le_of_ble_eq_true rfl⟩ rfl (Nat.le_of_ble_eq_true rfl) dX6_isName_37) (fun r37 u9 H locs hf M => ?_)
    generalize (u9.1, τ34.2.1 - cc_37, τ34.2.2 - cs_37) = τ37 at M hf
    generalize cells + cc_37 = cells at M ⊢
    generalize slots + cs_37 = slots at M ⊢
    obtain ⟨hft, hff⟩ := hf
    refine lv_if_ge (tgt := 47) hx hb dX6_isName_40 (by decide) (fun c1 => ?_) (fun c1 => ?_)
    · have hf := hft c1
      refine lv_iconst (v := 0) hx hb dX6_isName_47 rfl ?_
      exact hret _ _ _ _ _ _ _ _ dX6_isName_48 M hb_B0 hf
    · have hf := hff c1
      refine lv_iconst (v := 1) hx hb dX6_isName_43 rfl ?_
      refine lv_goto (tgt := 48) hx hb dX6_isName_44 (by decide) ?_
      exact hret _ _ _ _ _ _ _ _ dX6_isName_48 M hb_B1 hf
set_option maxHeartbeats 4000000 in
set_option maxRecDepth 100000 in
theorem hk_X6_isName_18 (l : Launch) (g : hu_G) (o : Nat) {υ : hu_S} {Q : Int32 → hu_S → Prop} (hf : hw_X6_isName g 18 o υ Q) : Met l yX6_isName (ws_ yX6_isName cX6_isName 1 (some .boolean)) (hu_R 6 151 υ.2.1 υ.2.2) (va_Pc [.ref o] (hu_U g υ)) (va_Qi Q (hu_B g) (hg_A g)) υ.2.1 υ.2.2 (hg_A g) := by
  refine hu_Mz (LV := [(0, .ref o)]) (by decide) rfl (Nat.le_of_ble_eq_true rfl) (fun p e s m args below meth c H locs cells slots ls QQ C M hin hl hret => ?_)
  have hx := C.1.1
  have hb := C.1.2.1
  unfold hw_X6_isName at hf
  refine lv_aload_n hx hb dX6_isName_0 rfl (lv_at hl 0 rfl) ?_
  obtain ⟨x1, e_1, hf⟩ := hf
  refine hu_get C M e_1 (CN := RX22) (T := TX22) (N := 12) rfl in_X22 (by decide) q589 dX6_isName_1 ?_
  refine lv_iconst (v := 2) hx hb dX6_isName_4 rfl ?_
  obtain ⟨hft, hff⟩ := hf
  refine lv_icmp_ne (tgt := 47) hx hb dX6_isName_5 (by decide) (fun c1 => ?_) (fun c1 => ?_)
  · have hf := hft c1
    refine lv_iconst (v := 0) hx hb dX6_isName_47 rfl ?_
    exact hret _ _ _ _ _ _ _ _ dX6_isName_48 M hb_B0 hf
  · have hf := hff c1
    refine va_ldcS hx hb C.1.2.2.2.1 (M.2.2.2.2.1.1 25 _ rfl) dX6_isName_8 ?_
    obtain ⟨m1_10, m2_10, hf⟩ := hf
    refine hu_newO C M (Nat.le_refl _) (Nat.le_refl _) (CN := RJ12) (T := TJ12) (N := 4) (ci := 2) (fs := [.null, .int 0, .int 0, .int 0]) in_J12 tyJ12 tyJ12_ok q641 q642 q144 rfl (fun j hj => by rcases (show j = 0 ∨ j = 1 ∨ j = 2 ∨ j = 3 by omega) with rfl | rfl | rfl | rfl <;> rfl) m1_10 m2_10 dX6_isName_10 (fun q10 H f_10 M => ?_)
    have hf := hf q10 f_10
    generalize hu_new _ _ _ _ = τ10 at M hf
    generalize cells + 1 = cells at M ⊢
    generalize slots + 4 = slots at M ⊢
    refine lv_dup hx hb dX6_isName_13 rfl ?_
    obtain ⟨cc_14, cs_14, h1_14, h2_14, hf⟩ := hf
    refine hu_kv M h1_14 h2_14 (hu_rI C M hl.1 (Nat.le_refl _) (Nat.le_refl _) h1_14 h2_14 (As := []) (rest := [.ref q10, .ref (hg_l g 25)]) (n := 0) (hk_J12_init l g q10 (υ := (τ10.1, cc_14, cs_14)) hf) rfl q643 q644 q144 q645 (by decide +kernel) rfl ⟨Nat.le_of_ble_eq_true rfl, Nat.le_of_ble_eq_true rfl⟩ rfl (Nat.le_of_ble_eq_true rfl) dX6_isName_14) (fun u9 H locs hf M => ?_)
    generalize (u9.1, τ10.2.1 - cc_14, τ10.2.2 - cs_14) = τ14 at M hf
    generalize cells + cc_14 = cells at M ⊢
    generalize slots + cs_14 = slots at M ⊢
    refine va_ldcS hx hb C.1.2.2.2.1 (M.2.2.2.2.1.1 26 _ rfl) dX6_isName_17 ?_
    obtain ⟨g_19, hf⟩ := hf
    obtain ⟨cc_19, cs_19, h1_19, h2_19, hf⟩ := hf
    refine hu_kr M h1_19 h2_19 (hu_rV C M hl.1 (Nat.le_refl _) (Nat.le_refl _) h1_19 h2_19 g_19 rfl (As := [.ref (hg_l g 26)]) (rest := [.ref (hg_l g 25)]) (n := 1) (hk_J12_append_2 l g q10 (hg_l g 26) (υ := (τ14.1, cc_19, cs_19)) hf) q892 q893 q894 q144 q895 rfl (by decide +kernel) rfl ⟨Nat.le_of_ble_eq_true rfl, Nat.le_of_ble_eq_true rfl⟩ rfl (Nat.le_of_ble_eq_true rfl) dX6_isName_19) (fun r19 u9 H locs hf M => ?_)
    generalize (u9.1, τ14.2.1 - cc_19, τ14.2.2 - cs_19) = τ19 at M hf
    generalize cells + cc_19 = cells at M ⊢
    generalize slots + cs_19 = slots at M ⊢
    refine lv_aload_n hx hb dX6_isName_22 rfl (lv_at hl 0 rfl) ?_
    obtain ⟨x23, e_23, hf⟩ := hf
    refine hu_get C M e_23 (CN := RX22) (T := TX22) (N := 12) rfl in_X22 (by decide) q595 dX6_isName_23 ?_
    obtain ⟨g_26, hf⟩ := hf
    obtain ⟨cc_26, cs_26, h1_26, h2_26, hf⟩ := hf
    refine hu_kr M h1_26 h2_26 (hu_rV C M hl.1 (Nat.le_refl _) (Nat.le_refl _) h1_26 h2_26 g_26 rfl (As := [.ref x23]) (rest := [.ref (hg_l g 25)]) (n := 1) (hk_J12_append_2 l g r19 x23 (υ := (τ19.1, cc_26, cs_26)) hf) q892 q893 q894 q144 q895 rfl (by decide +kernel) rfl ⟨Nat.le_of_ble_eq_true rfl, Nat.le_of_ble_eq_true rfl⟩ rfl (Nat.le_of_ble_eq_true rfl) dX6_isName_26) (fun r26 u9 H locs hf M => ?_)
    generalize (u9.1, τ19.2.1 - cc_26, τ19.2.2 - cs_26) = τ26 at M hf
    generalize cells + cc_26 = cells at M ⊢
    generalize slots + cs_26 = slots at M ⊢
    refine va_ldcS hx hb C.1.2.2.2.1 (M.2.2.2.2.1.1 26 _ rfl) dX6_isName_29 ?_
    obtain ⟨g_31, hf⟩ := hf
    obtain ⟨cc_31, cs_31, h1_31, h2_31, hf⟩ := hf
    refine hu_kr M h1_31 h2_31 (hu_rV C M hl.1 (Nat.le_refl _) (Nat.le_refl _) h1_31 h2_31 g_31 rfl (As := [.ref (hg_l g 26)]) (rest := [.ref (hg_l g 25)]) (n := 1) (hk_J12_append_2 l g r26 (hg_l g 26) (υ := (τ26.1, cc_31, cs_31)) hf) q892 q893 q894 q144 q895 rfl (by decide +kernel) rfl ⟨Nat.le_of_ble_eq_true rfl, Nat.le_of_ble_eq_true rfl⟩ rfl (Nat.le_of_ble_eq_true rfl) dX6_isName_31) (fun r31 u9 H locs hf M => ?_)
    generalize (u9.1, τ26.2.1 - cc_31, τ26.2.2 - cs_31) = τ31 at M hf
    generalize cells + cc_31 = cells at M ⊢
    generalize slots + cs_31 = slots at M ⊢
    obtain ⟨g_34, hf⟩ := hf
    obtain ⟨cc_34, cs_34, h1_34, h2_34, hf⟩ := hf
    refine hu_kr M h1_34 h2_34 (hu_rV C M hl.1 (Nat.le_refl _) (Nat.le_refl _) h1_34 h2_34 g_34 rfl (As := []) (rest := [.ref (hg_l g 25)]) (n := 0) (hk_J12_toString l g r31 (υ := (τ31.1, cc_34, cs_34)) hf) q765 q766 q767 q144 q768 rfl (by decide +kernel) rfl ⟨Nat.le_of_ble_eq_true rfl, Nat.le_of_ble_eq_true rfl⟩ rfl (Nat.le_of_ble_eq_true rfl) dX6_isName_34) (fun r34 u9 H locs hf M => ?_)
    generalize (u9.1, τ31.2.1 - cc_34, τ31.2.2 - cs_34) = τ34 at M hf
    generalize cells + cc_34 = cells at M ⊢
    generalize slots + cs_34 = slots at M ⊢
    obtain ⟨g_37, hf⟩ := hf
    obtain ⟨cc_37, cs_37, h1_37, h2_37, hf⟩ := hf
    refine hu_ki M h1_37 h2_37 (hu_rV C M hl.1 (Nat.le_refl _) (Nat.le_refl _) h1_37 h2_37 g_37 rfl (As := [.ref r34]) (rest := []) (n := 1) (hk_J13_indexOf l g (hg_l g 25) r34 (υ := (τ34.1, cc_37, cs_37)) hf) q938 q939 q940 q145 q941 rfl (by decide +kernel) rfl ⟨Nat.le_of_ble_eq_true rfl, Nat.le_of_ble_eq_true rfl⟩ rfl (Nat.le_of_ble_eq_true rfl) dX6_isName_37) (fun r37 u9 H locs hf M => ?_)
    generalize (u9.1, τ34.2.1 - cc_37, τ34.2.2 - cs_37) = τ37 at M hf
    generalize cells + cc_37 = cells at M ⊢
    generalize slots + cs_37 = slots at M ⊢
    obtain ⟨hft, hff⟩ := hf
    refine lv_if_ge (tgt := 47) hx hb dX6_isName_40 (by decide) (fun c1 => ?_) (fun c1 => ?_)
    · have hf := hft c1
      refine lv_iconst (v := 0) hx hb dX6_isName_47 rfl ?_
      exact hret _ _ _ _ _ _ _ _ dX6_isName_48 M hb_B0 hf
    · have hf := hff c1
      refine lv_iconst (v := 1) hx hb dX6_isName_43 rfl ?_
      refine lv_goto (tgt := 48) hx hb dX6_isName_44 (by decide) ?_
      exact hret _ _ _ _ _ _ _ _ dX6_isName_48 M hb_B1 hf
