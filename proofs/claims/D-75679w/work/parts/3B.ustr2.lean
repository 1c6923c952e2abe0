set_option maxRecDepth 100000
def hw_J11_getValue (g : hu_G) (o : Nat) (υ : hu_S) (Q : Nat → hu_S → Prop) : Prop := hu_gr g υ o 2 0 (fun x1 => (Q x1 υ))
set_option maxHeartbeats 4000000 in
set_option maxRecDepth 100000 in
theorem hk_J11_getValue (l : Launch) (g : hu_G) (o : Nat) {υ : hu_S} {Q : Nat → hu_S → Prop} (hf : hw_J11_getValue g o υ Q) : Met l yJ11_getValue (ws_ yJ11_getValue cJ11_getValue 1 (some (.array .byte))) (hu_R 0 0 υ.2.1 υ.2.2) (va_Pc [.ref o] (hu_U g υ)) (va_Qr (fun _ : hu_S => True) (fun u r t => Q r u ∧ hu_V g u t.heap) (hg_A g)) υ.2.1 υ.2.2 (hg_A g) := by
  refine hu_Mr (Or.inr ⟨_, rfl⟩) (LV := [(0, .ref o)]) (by decide) rfl (Nat.le_of_ble_eq_true rfl) (fun p e s m args below meth c H locs cells slots ls QQ C M hin hl hret => ?_)
  have hx := C.1.1
  have hb := C.1.2.1
  unfold hw_J11_getValue at hf
  refine lv_aload_n hx hb dJ11_getValue_0 rfl (lv_at hl 0 rfl) ?_
  obtain ⟨x1, e_1, hf⟩ := hf
  refine hu_get C M e_1 (CN := RJ12) (T := TJ12) (N := 4) rfl in_J12 (by decide) q659 dJ11_getValue_1 ?_
  exact hret _ _ _ _ _ _ _ _ dJ11_getValue_4 M hf
def hw_J11_length (g : hu_G) (o : Nat) (υ : hu_S) (Q : Int32 → hu_S → Prop) : Prop := hu_gi g υ o 2 3 (fun x1 => (Q x1 υ))
set_option maxHeartbeats 4000000 in
set_option maxRecDepth 100000 in
theorem hk_J11_length (l : Launch) (g : hu_G) (o : Nat) {υ : hu_S} {Q : Int32 → hu_S → Prop} (hf : hw_J11_length g o υ Q) : Met l yJ11_length (ws_ yJ11_length cJ11_length 1 (some .int)) (hu_R 0 0 υ.2.1 υ.2.2) (va_Pc [.ref o] (hu_U g υ)) (va_Qi Q (hu_B g) (hg_A g)) υ.2.1 υ.2.2 (hg_A g) := by
  refine hu_Mi (LV := [(0, .ref o)]) (by decide) rfl (Nat.le_of_ble_eq_true rfl) (fun p e s m args below meth c H locs cells slots ls QQ C M hin hl hret => ?_)
  have hx := C.1.1
  have hb := C.1.2.1
  unfold hw_J11_length at hf
  refine lv_aload_n hx hb dJ11_length_0 rfl (lv_at hl 0 rfl) ?_
  obtain ⟨x1, e_1, hf⟩ := hf
  refine hu_get C M e_1 (CN := RJ12) (T := TJ12) (N := 4) rfl in_J12 (by decide) q662 dJ11_length_1 ?_
  exact hret _ _ _ _ _ _ _ _ dJ11_length_4 M hf
def hw_J12_length (g : hu_G) (o : Nat) (υ : hu_S) (Q : Int32 → hu_S → Prop) : Prop := hu_k g υ o 2 ∧ (hu_c υ (hw_J11_length g o) (fun r1 τ1 => (Q r1 τ1)))
set_option maxHeartbeats 4000000 in
set_option maxRecDepth 100000 in
theorem hk_J12_length (l : Launch) (g : hu_G) (o : Nat) {υ : hu_S} {Q : Int32 → hu_S → Prop} (hf : hw_J12_length g o υ Q) : Met l yJ12_length (ws_ yJ12_length cJ12_length 1 (some .int)) (hu_R 1 20 υ.2.1 υ.2.2) (va_Pc [.ref o] (hu_U g υ)) (va_Qi Q (hu_B g) (hg_A g)) υ.2.1 υ.2.2 (hg_A g) := by
  refine hu_Mi (LV := [(0, .ref o)]) (by decide) rfl (Nat.le_of_ble_eq_true rfl) (fun p e s m args below meth c H locs cells slots ls QQ C M hin hl hret => ?_)
  have hx := C.1.1
  have hb := C.1.2.1
  unfold hw_J12_length at hf
  refine lv_aload_n hx hb dJ12_length_0 rfl (lv_at hl 0 rfl) ?_
  obtain ⟨g_1, hf⟩ := hf
  obtain ⟨cc_1, cs_1, h1_1, h2_1, hf⟩ := hf
  refine hu_ki M h1_1 h2_1 (hu_rSU C M hl.1 (Nat.le_refl _) (Nat.le_refl _) h1_1 h2_1 g_1 rfl (As := []) (rest := []) (n := 0) (hk_J11_length l g o (υ := (υ.1, cc_1, cs_1)) hf) q789 q785 q671 q784 q143 q790 (by decide +kernel) rfl ⟨Nat.le_of_ble_eq_true rfl, Nat.le_of_ble_eq_true rfl⟩ rfl (Nat.le_of_ble_eq_true rfl) dJ12_length_1) (fun r1 u9 H locs hf M => ?_)
  generalize (u9.1, υ.2.1 - cc_1, υ.2.2 - cs_1) = τ1 at M hf
  generalize cells + cc_1 = cells at M ⊢
  generalize slots + cs_1 = slots at M ⊢
  exact hret _ _ _ _ _ _ _ _ dJ12_length_4 M hf
def hw_J15_newLength (g : hu_G) (a0 : Int32) (a1 : Int32) (a2 : Int32) (υ : hu_S) (Q : Int32 → hu_S → Prop) : Prop := ((a0 + (if a1 < a2 then a2 else a1)) ≤ (0 : Int32) → False) ∧ (¬ (a0 + (if a1 < a2 then a2 else a1)) ≤ (0 : Int32) → (2147483639 < (a0 + (if a1 < a2 then a2 else a1)) → False) ∧ (¬ 2147483639 < (a0 + (if a1 < a2 then a2 else a1)) → Q (a0 + (if a1 < a2 then a2 else a1)) υ))
set_option maxHeartbeats 4000000 in
set_option maxRecDepth 100000 in
theorem hk_J15_newLength (l : Launch) (g : hu_G) (a0 : Int32) (a1 : Int32) (a2 : Int32) {υ : hu_S} {Q : Int32 → hu_S → Prop} (hf : hw_J15_newLength g a0 a1 a2 υ Q) : Met l yJ15_newLength (ws_ yJ15_newLength cJ15_newLength 4 (some .int)) (hu_R 1 21 υ.2.1 υ.2.2) (va_Pc [.int a0, .int a1, .int a2] (hu_U g υ)) (va_Qi Q (hu_B g) (hg_A g)) υ.2.1 υ.2.2 (hg_A g) := by
  refine hu_Mi (LV := [(0, .int a0), (1, .int a1), (2, .int a2)]) (by decide) rfl (Nat.le_of_ble_eq_true rfl) (fun p e s m args below meth c H locs cells slots ls QQ C M hin hl hret => ?_)
  have hx := C.1.1
  have hb := C.1.2.1
  unfold hw_J15_newLength at hf
  refine lv_iload_n hx hb dJ15_newLength_0 rfl (lv_at hl 0 rfl) ?_
  refine lv_iload_n hx hb dJ15_newLength_1 rfl (lv_at hl 1 rfl) ?_
  refine lv_iload_n hx hb dJ15_newLength_2 rfl (lv_at hl 2 rfl) ?_
  refine va_mmax hx hb (C.1.2.2.1.trans hl.1.symm) C.1.2.2.2.1 (C.1.2.2.2.2 _ q690) (C.1.2.2.2.2 _ q691) (C.1.2.2.2.2 _ q148) (C.1.2.2.2.2 _ q692) (Nat.le_of_ble_eq_true rfl) (Nat.le_of_ble_eq_true rfl) M.rc M.rs dJ15_newLength_3 ?_
  refine lv_iadd hx hb dJ15_newLength_6 ?_
  refine lv_istore_n (lv' := [(3, .int (a0 + (if a1 < a2 then a2 else a1))), (0, .int a0), (1, .int a1), (2, .int a2)]) hx hb dJ15_newLength_7 rfl hl (by decide) rfl (fun ls hl => ?_)
  refine lv_iconst (v := 0) hx hb dJ15_newLength_8 rfl ?_
  refine lv_iload_n hx hb dJ15_newLength_9 rfl (lv_at hl 0 rfl) ?_
  obtain ⟨hft, hff⟩ := hf
  refine lv_icmp_ge (tgt := 21) hx hb dJ15_newLength_10 (by decide) (fun c1 => ?_) (fun c1 => ?_)
  · have hf := hft c1
    refine lv_iload_n hx hb dJ15_newLength_21 rfl (lv_at hl 1 rfl) ?_
    refine lv_iload_n hx hb dJ15_newLength_22 rfl (lv_at hl 2 rfl) ?_
    exact hf.elim
  · have hf := hff c1
    refine lv_iload_n hx hb dJ15_newLength_13 rfl (lv_at hl 0 rfl) ?_
    refine lv_ldc hx hb C.1.2.2.2.1 (C.1.2.2.2.2 _ q693) dJ15_newLength_14 ?_
    obtain ⟨hft, hff⟩ := hf
    refine lv_icmp_gt (tgt := 21) hx hb dJ15_newLength_16 (by decide) (fun c1 => ?_) (fun c1 => ?_)
    · have hf := hft c1
      refine lv_iload_n hx hb dJ15_newLength_21 rfl (lv_at hl 1 rfl) ?_
      refine lv_iload_n hx hb dJ15_newLength_22 rfl (lv_at hl 2 rfl) ?_
      exact hf.elim
    · have hf := hff c1
      refine lv_iload_n hx hb dJ15_newLength_19 rfl (lv_at hl 0 rfl) ?_
      exact hret _ _ _ _ _ _ _ _ dJ15_newLength_20 M hf
def hw_J11_newCapacity (g : hu_G) (o : Nat) (a1 : Int32) (υ : hu_S) (Q : Int32 → hu_S → Prop) : Prop := hu_gr g υ o 2 0 (fun x1 => (hu_gl g υ x1 (fun n4 => (hu_gi g υ o 2 1 (fun x8 => (hu_gi g υ o 2 1 (fun x24 => (hu_c υ (hw_J15_newLength g n4 ((a1 <<< (x8 &&& 31)) - n4) (n4 + ((2 : Int32) <<< (x24 &&& 31)))) (fun r29 τ29 => ((¬ r29 = 2147483647 → hu_gi g τ29 o 2 1 (fun x54 => (Q (r29 >>> (x54 &&& 31)) τ29))) ∧ (r29 = 2147483647 → False)))))))))))
set_option maxHeartbeats 4000000 in
set_option maxRecDepth 100000 in
theorem hk_J11_newCapacity (l : Launch) (g : hu_G) (o : Nat) (a1 : Int32) {υ : hu_S} {Q : Int32 → hu_S → Prop} (hf : hw_J11_newCapacity g o a1 υ Q) : Met l yJ11_newCapacity (ws_ yJ11_newCapacity cJ11_newCapacity 6 (some .int)) (hu_R 2 44 υ.2.1 υ.2.2) (va_Pc [.ref o, .int a1] (hu_U g υ)) (va_Qi Q (hu_B g) (hg_A g)) υ.2.1 υ.2.2 (hg_A g) := by
  refine hu_Mi (LV := [(0, .ref o), (1, .int a1)]) (by decide) rfl (Nat.le_of_ble_eq_true rfl) (fun p e s m args below meth c H locs cells slots ls QQ C M hin hl hret => ?_)
  have hx := C.1.1
  have hb := C.1.2.1
  unfold hw_J11_newCapacity at hf
  refine lv_aload_n hx hb dJ11_newCapacity_0 rfl (lv_at hl 0 rfl) ?_
  obtain ⟨x1, e_1, hf⟩ := hf
  refine hu_get C M e_1 (CN := RJ12) (T := TJ12) (N := 4) rfl in_J12 (by decide) q659 dJ11_newCapacity_1 ?_
  obtain ⟨nn_4, ff_4, e_4, hf⟩ := hf
  refine hu_blen C M e_4 dJ11_newCapacity_4 ?_
  generalize nI nn_4 = n4 at hf ⊢
  refine lv_istore_n (lv' := [(2, .int n4), (0, .ref o), (1, .int a1)]) hx hb dJ11_newCapacity_5 rfl hl (by decide) rfl (fun ls hl => ?_)
  refine lv_iload_n hx hb dJ11_newCapacity_6 rfl (lv_at hl 2 rfl) ?_
  refine lv_aload_n hx hb dJ11_newCapacity_7 rfl (lv_at hl 1 rfl) ?_
  obtain ⟨x8, e_8, hf⟩ := hf
  refine hu_get C M e_8 (CN := RJ12) (T := TJ12) (N := 4) rfl in_J12 (by decide) q660 dJ11_newCapacity_8 ?_
  refine lv_ishl hx hb dJ11_newCapacity_11 ?_
  refine lv_istore_n (lv' := [(3, .int (a1 <<< (x8 &&& 31))), (2, .int n4), (0, .ref o), (1, .int a1)]) hx hb dJ11_newCapacity_12 rfl hl (by decide) rfl (fun ls hl => ?_)
  refine lv_iload_n hx hb dJ11_newCapacity_13 rfl (lv_at hl 0 rfl) ?_
  refine lv_iload_n hx hb dJ11_newCapacity_14 rfl (lv_at hl 1 rfl) ?_
  refine lv_isub hx hb dJ11_newCapacity_15 ?_
  refine lv_istore (lv' := [(4, .int ((a1 <<< (x8 &&& 31)) - n4)), (3, .int (a1 <<< (x8 &&& 31))), (2, .int n4), (0, .ref o), (1, .int a1)]) hx hb dJ11_newCapacity_16 hl (by decide) rfl (fun ls hl => ?_)
  refine lv_iload_n hx hb dJ11_newCapacity_18 rfl (lv_at hl 2 rfl) ?_
  refine lv_iload hx hb dJ11_newCapacity_19 (lv_at hl 0 rfl) ?_
  refine lv_iload_n hx hb dJ11_newCapacity_21 rfl (lv_at hl 2 rfl) ?_
  refine lv_iconst (v := 2) hx hb dJ11_newCapacity_22 rfl ?_
  refine lv_aload_n hx hb dJ11_newCapacity_23 rfl (lv_at hl 3 rfl) ?_
  obtain ⟨x24, e_24, hf⟩ := hf
  refine hu_get C M e_24 (CN := RJ12) (T := TJ12) (N := 4) rfl in_J12 (by decide) q660 dJ11_newCapacity_24 ?_
  refine lv_ishl hx hb dJ11_newCapacity_27 ?_
  refine lv_iadd hx hb dJ11_newCapacity_28 ?_
  obtain ⟨cc_29, cs_29, h1_29, h2_29, hf⟩ := hf
  refine hu_ki M h1_29 h2_29 (hu_rS C M hl.1 (Nat.le_refl _) (Nat.le_refl _) h1_29 h2_29 (As := [.int n4, .int ((a1 <<< (x8 &&& 31)) - n4), .int (n4 + ((2 : Int32) <<< (x24 &&& 31)))]) (rest := []) (n := 3) (hk_J15_newLength l g n4 ((a1 <<< (x8 &&& 31)) - n4) (n4 + ((2 : Int32) <<< (x24 &&& 31))) (υ := (υ.1, cc_29, cs_29)) hf) q687 q688 q147 q689 (by decide +kernel) rfl ⟨Nat.le_of_ble_eq_true rfl, Nat.le_of_ble_eq_true rfl⟩ rfl (Nat.le_of_ble_eq_true rfl) dJ11_newCapacity_29) (fun r29 u9 H locs hf M => ?_)
  generalize (u9.1, υ.2.1 - cc_29, υ.2.2 - cs_29) = τ29 at M hf
  generalize cells + cc_29 = cells at M ⊢
  generalize slots + cs_29 = slots at M ⊢
  refine lv_istore (lv' := [(5, .int r29), (4, .int ((a1 <<< (x8 &&& 31)) - n4)), (3, .int (a1 <<< (x8 &&& 31))), (2, .int n4), (0, .ref o), (1, .int a1)]) hx hb dJ11_newCapacity_32 hl (by decide) rfl (fun ls hl => ?_)
  refine lv_iload hx hb dJ11_newCapacity_34 (lv_at hl 0 rfl) ?_
  refine lv_ldc hx hb C.1.2.2.2.1 (C.1.2.2.2.2 _ q697) dJ11_newCapacity_36 ?_
  obtain ⟨hft, hff⟩ := hf
  refine lv_icmp_ne (tgt := 51) hx hb dJ11_newCapacity_38 (by decide) (fun c1 => ?_) (fun c1 => ?_)
  · have hf := hft c1
    refine lv_iload hx hb dJ11_newCapacity_51 (lv_at hl 0 rfl) ?_
    refine lv_aload_n hx hb dJ11_newCapacity_53 rfl (lv_at hl 4 rfl) ?_
    obtain ⟨x54, e_54, hf⟩ := hf
    refine hu_get C M e_54 (CN := RJ12) (T := TJ12) (N := 4) rfl in_J12 (by decide) q660 dJ11_newCapacity_54 ?_
    refine lv_ishr hx hb dJ11_newCapacity_57 ?_
    exact hret _ _ _ _ _ _ _ _ dJ11_newCapacity_58 M hf
  · have hf := hff c1
    exact hf.elim
def hw_J3_checkLength (g : hu_G) (a0 : Int32) (a1 : Int32) (υ : hu_S) (Q : hu_S → Prop) : Prop := (a0 ≤ a1 → Q υ) ∧ (¬ a0 ≤ a1 → False)
set_option maxHeartbeats 4000000 in
set_option maxRecDepth 100000 in
theorem hk_J3_checkLength (l : Launch) (g : hu_G) (a0 : Int32) (a1 : Int32) {υ : hu_S} {Q : hu_S → Prop} (hf : hw_J3_checkLength g a0 a1 υ Q) : Met l yJ3_checkLength (ws_ yJ3_checkLength cJ3_checkLength 2 none) (hu_R 0 0 υ.2.1 υ.2.2) (va_Pc [.int a0, .int a1] (hu_U g υ)) (va_Qv Q (hu_B g) (hg_A g)) υ.2.1 υ.2.2 (hg_A g) := by
  refine hu_Mv (LV := [(0, .int a0), (1, .int a1)]) (by decide) rfl (Nat.le_of_ble_eq_true rfl) (fun p e s m args below meth c H locs cells slots ls QQ C M hin hl hret => ?_)
  have hx := C.1.1
  have hb := C.1.2.1
  unfold hw_J3_checkLength at hf
  refine lv_iload_n hx hb dJ3_checkLength_0 rfl (lv_at hl 1 rfl) ?_
  refine lv_iload_n hx hb dJ3_checkLength_1 rfl (lv_at hl 0 rfl) ?_
  obtain ⟨hft, hff⟩ := hf
  refine lv_icmp_ge (tgt := 37) hx hb dJ3_checkLength_2 (by decide) (fun c1 => ?_) (fun c1 => ?_)
  · have hf := hft c1
    exact hret _ _ _ _ _ _ _ dJ3_checkLength_37 M hf
  · have hf := hff c1
    exact hf.elim
def hw_J3_copyOfRangeByte (g : hu_G) (a0 : Nat) (a1 : Int32) (a2 : Int32) (υ : hu_S) (Q : Nat → hu_S → Prop) : Prop := hu_cv υ (hw_J3_checkLength g a1 a2) (fun τ2 => (hu_mB g τ2 (a2 - a1) (fun q10 τ10 => (hu_gl g τ10 a0 (fun n20 => (hu_cp g τ10 a0 a1 q10 0 (if (a2 - a1) < (n20 - a1) then (a2 - a1) else (n20 - a1)) (fun τ27 => (Q q10 τ27))))))))
set_option maxHeartbeats 4000000 in
set_option maxRecDepth 100000 in
theorem hk_J3_copyOfRangeByte (l : Launch) (g : hu_G) (a0 : Nat) (a1 : Int32) (a2 : Int32) {υ : hu_S} {Q : Nat → hu_S → Prop} (hf : hw_J3_copyOfRangeByte g a0 a1 a2 υ Q) : Met l yJ3_copyOfRangeByte (ws_ yJ3_copyOfRangeByte cJ3_copyOfRangeByte 5 (some (.array .byte))) (hu_R 1 40 υ.2.1 υ.2.2) (va_Pc [.ref a0, .int a1, .int a2] (hu_U g υ)) (va_Qr (fun _ : hu_S => True) (fun u r t => Q r u ∧ hu_V g u t.heap) (hg_A g)) υ.2.1 υ.2.2 (hg_A g) := by
  refine hu_Mr (Or.inr ⟨_, rfl⟩) (LV := [(0, .ref a0), (1, .int a1), (2, .int a2)]) (by decide) rfl (Nat.le_of_ble_eq_true rfl) (fun p e s m args below meth c H locs cells slots ls QQ C M hin hl hret => ?_)
  have hx := C.1.1
  have hb := C.1.2.1
  unfold hw_J3_copyOfRangeByte at hf
  refine lv_iload_n hx hb dJ3_copyOfRangeByte_0 rfl (lv_at hl 1 rfl) ?_
  refine lv_iload_n hx hb dJ3_copyOfRangeByte_1 rfl (lv_at hl 2 rfl) ?_
  obtain ⟨cc_2, cs_2, h1_2, h2_2, hf⟩ := hf
  refine hu_kv M h1_2 h2_2 (hu_rS C M hl.1 (Nat.le_refl _) (Nat.le_refl _) h1_2 h2_2 (As := [.int a1, .int a2]) (rest := []) (n := 2) (hk_J3_checkLength l g a1 a2 (υ := (υ.1, cc_2, cs_2)) hf) q798 q799 q131 q800 (by decide +kernel) rfl ⟨Nat.le_of_ble_eq_true rfl, Nat.le_of_ble_eq_true rfl⟩ rfl (Nat.le_of_ble_eq_true rfl) dJ3_copyOfRangeByte_2) (fun u9 H locs hf M => ?_)
  generalize (u9.1, υ.2.1 - cc_2, υ.2.2 - cs_2) = τ2 at M hf
  generalize cells + cc_2 = cells at M ⊢
  generalize slots + cs_2 = slots at M ⊢
  refine lv_iload_n hx hb dJ3_copyOfRangeByte_5 rfl (lv_at hl 2 rfl) ?_
  refine lv_iload_n hx hb dJ3_copyOfRangeByte_6 rfl (lv_at hl 1 rfl) ?_
  refine lv_isub hx hb dJ3_copyOfRangeByte_7 ?_
  refine lv_istore_n (lv' := [(3, .int (a2 - a1)), (0, .ref a0), (1, .int a1), (2, .int a2)]) hx hb dJ3_copyOfRangeByte_8 rfl hl (by decide) rfl (fun ls hl => ?_)
  refine lv_iload_n hx hb dJ3_copyOfRangeByte_9 rfl (lv_at hl 0 rfl) ?_
  obtain ⟨m1_10, m2_10, m3_10, m4_10, hf⟩ := hf
  refine hu_newB C M (Nat.le_refl _) (Nat.le_refl _) q217 m1_10 m2_10 m3_10 m4_10 dJ3_copyOfRangeByte_10 (fun q10 H f_10 M => ?_)
  have hf := hf q10 f_10
  generalize hu_new _ _ _ _ = τ10 at M hf
  generalize cells + 1 = cells at M ⊢
  generalize slots + Int32.toNatClampNeg (a2 - a1) = slots at M ⊢
  refine lv_astore (lv' := [(4, .ref q10), (3, .int (a2 - a1)), (0, .ref a0), (1, .int a1), (2, .int a2)]) hx hb dJ3_copyOfRangeByte_12 hl (by decide) rfl (fun ls hl => ?_)
  refine lv_aload_n hx hb dJ3_copyOfRangeByte_14 rfl (lv_at hl 2 rfl) ?_
  refine lv_iload_n hx hb dJ3_copyOfRangeByte_15 rfl (lv_at hl 3 rfl) ?_
  refine lv_aload hx hb dJ3_copyOfRangeByte_16 (lv_at hl 0 rfl) ?_
  refine lv_iconst (v := 0) hx hb dJ3_copyOfRangeByte_18 rfl ?_
  refine lv_aload_n hx hb dJ3_copyOfRangeByte_19 rfl (lv_at hl 2 rfl) ?_
  obtain ⟨nn_20, ff_20, e_20, hf⟩ := hf
  refine hu_blen C M e_20 dJ3_copyOfRangeByte_20 ?_
  generalize nI nn_20 = n20 at hf ⊢
  refine lv_iload_n hx hb dJ3_copyOfRangeByte_21 rfl (lv_at hl 3 rfl) ?_
  refine lv_isub hx hb dJ3_copyOfRangeByte_22 ?_
  refine lv_iload_n hx hb dJ3_copyOfRangeByte_23 rfl (lv_at hl 1 rfl) ?_
  refine va_mmin hx hb (C.1.2.2.1.trans hl.1.symm) C.1.2.2.2.1 (C.1.2.2.2.2 _ q708) (C.1.2.2.2.2 _ q709) (C.1.2.2.2.2 _ q148) (C.1.2.2.2.2 _ q710) (Nat.le_of_ble_eq_true rfl) (Nat.le_of_ble_eq_true rfl) M.rc M.rs dJ3_copyOfRangeByte_24 ?_
  refine hu_copyB C M hl.1 q711 q713 q712 q149 hf (Nat.le_of_ble_eq_true rfl) (Nat.le_of_ble_eq_true rfl) dJ3_copyOfRangeByte_27 (fun τ27 H locs hf M => ?_)
  refine lv_aload hx hb dJ3_copyOfRangeByte_30 (lv_at hl 0 rfl) ?_
  exact hret _ _ _ _ _ _ _ _ dJ3_copyOfRangeByte_32 M hf
def hw_J3_copyOfRange (g : hu_G) (a0 : Nat) (a1 : Int32) (a2 : Int32) (υ : hu_S) (Q : Nat → hu_S → Prop) : Prop := (¬ a1 = 0 → hu_c υ (hw_J3_copyOfRangeByte g a0 a1 a2) (fun r13 τ13 => (Q r13 τ13))) ∧ (a1 = 0 → hu_gl g υ a0 (fun n6 => ((a2 = n6 → hu_cl g υ a0 (fun q18 τ18 => (Q q18 τ18))) ∧ (¬ a2 = n6 → hu_c υ (hw_J3_copyOfRangeByte g a0 a1 a2) (fun r13 τ13 => (Q r13 τ13))))))
set_option maxHeartbeats 4000000 in
set_option maxRecDepth 100000 in
theorem hk_J3_copyOfRange (l : Launch) (g : hu_G) (a0 : Nat) (a1 : Int32) (a2 : Int32) {υ : hu_S} {Q : Nat → hu_S → Prop} (hf : hw_J3_copyOfRange g a0 a1 a2 υ Q) : Met l yJ3_copyOfRange (ws_ yJ3_copyOfRange cJ3_copyOfRange 3 (some (.array .byte))) (hu_R 2 64 υ.2.1 υ.2.2) (va_Pc [.ref a0, .int a1, .int a2] (hu_U g υ)) (va_Qr (fun _ : hu_S => True) (fun u r t => Q r u ∧ hu_V g u t.heap) (hg_A g)) υ.2.1 υ.2.2 (hg_A g) := by
  refine hu_Mr (Or.inr ⟨_, rfl⟩) (LV := [(0, .ref a0), (1, .int a1), (2, .int a2)]) (by decide) rfl (Nat.le_of_ble_eq_true rfl) (fun p e s m args below meth c H locs cells slots ls QQ C M hin hl hret => ?_)
  have hx := C.1.1
  have hb := C.1.2.1
  unfold hw_J3_copyOfRange at hf
  refine lv_iload_n hx hb dJ3_copyOfRange_0 rfl (lv_at hl 1 rfl) ?_
  obtain ⟨hft, hff⟩ := hf
  refine lv_if_ne (tgt := 10) hx hb dJ3_copyOfRange_1 (by decide) (fun c1 => ?_) (fun c1 => ?_)
  · have hf := hft c1
    refine lv_aload_n hx hb dJ3_copyOfRange_10 rfl (lv_at hl 0 rfl) ?_
    refine lv_iload_n hx hb dJ3_copyOfRange_11 rfl (lv_at hl 1 rfl) ?_
    refine lv_iload_n hx hb dJ3_copyOfRange_12 rfl (lv_at hl 2 rfl) ?_
    obtain ⟨cc_13, cs_13, h1_13, h2_13, hf⟩ := hf
    refine hu_kr M h1_13 h2_13 (hu_rS C M hl.1 (Nat.le_refl _) (Nat.le_refl _) h1_13 h2_13 (As := [.ref a0, .int a1, .int a2]) (rest := []) (n := 3) (hk_J3_copyOfRangeByte l g a0 a1 a2 (υ := (υ.1, cc_13, cs_13)) hf) q795 q796 q131 q797 (by decide +kernel) rfl ⟨Nat.le_of_ble_eq_true rfl, Nat.le_of_ble_eq_true rfl⟩ rfl (Nat.le_of_ble_eq_true rfl) dJ3_copyOfRange_13) (fun r13 u9 H locs hf M => ?_)
    generalize (u9.1, υ.2.1 - cc_13, υ.2.2 - cs_13) = τ13 at M hf
    generalize cells + cc_13 = cells at M ⊢
    generalize slots + cs_13 = slots at M ⊢
    exact hret _ _ _ _ _ _ _ _ dJ3_copyOfRange_16 M hf
  · have hf := hff c1
    refine lv_iload_n hx hb dJ3_copyOfRange_4 rfl (lv_at hl 2 rfl) ?_
    refine lv_aload_n hx hb dJ3_copyOfRange_5 rfl (lv_at hl 0 rfl) ?_
    obtain ⟨nn_6, ff_6, e_6, hf⟩ := hf
    refine hu_blen C M e_6 dJ3_copyOfRange_6 ?_
    generalize nI nn_6 = n6 at hf ⊢
    obtain ⟨hft, hff⟩ := hf
    refine lv_icmp_eq (tgt := 17) hx hb dJ3_copyOfRange_7 (by decide) (fun c1 => ?_) (fun c1 => ?_)
    · have hf := hft c1
      refine lv_aload_n hx hb dJ3_copyOfRange_17 rfl (lv_at hl 0 rfl) ?_
      refine hu_clone C M hl.1 (Nat.le_refl _) (Nat.le_refl _) q701 q702 q703 q704 q705 q706 hf (Nat.le_of_ble_eq_true rfl) (Nat.le_of_ble_eq_true rfl) dJ3_copyOfRange_18 (fun q18 n_18 f_18 τ18 H hf e_18 M => ?_)
      generalize cells + 1 = cells at M ⊢
      generalize slots + n_18 = slots at M ⊢
      refine hu_castB C M q707 e_18 dJ3_copyOfRange_21 ?_
      exact hret _ _ _ _ _ _ _ _ dJ3_copyOfRange_24 M hf
    · have hf := hff c1
      refine lv_aload_n hx hb dJ3_copyOfRange_10 rfl (lv_at hl 0 rfl) ?_
      refine lv_iload_n hx hb dJ3_copyOfRange_11 rfl (lv_at hl 1 rfl) ?_
      refine lv_iload_n hx hb dJ3_copyOfRange_12 rfl (lv_at hl 2 rfl) ?_
      obtain ⟨cc_13, cs_13, h1_13, h2_13, hf⟩ := hf
      refine hu_kr M h1_13 h2_13 (hu_rS C M hl.1 (Nat.le_refl _) (Nat.le_refl _) h1_13 h2_13 (As := [.ref a0, .int a1, .int a2]) (rest := []) (n := 3) (hk_J3_copyOfRangeByte l g a0 a1 a2 (υ := (υ.1, cc_13, cs_13)) hf) q795 q796 q131 q797 (by decide +kernel) rfl ⟨Nat.le_of_ble_eq_true rfl, Nat.le_of_ble_eq_true rfl⟩ rfl (Nat.le_of_ble_eq_true rfl) dJ3_copyOfRange_13) (fun r13 u9 H locs hf M => ?_)
      generalize (u9.1, υ.2.1 - cc_13, υ.2.2 - cs_13) = τ13 at M hf
      generalize cells + cc_13 = cells at M ⊢
      generalize slots + cs_13 = slots at M ⊢
      exact hret _ _ _ _ _ _ _ _ dJ3_copyOfRange_16 M hf
def hw_J3_copyOf (g : hu_G) (a0 : Nat) (a1 : Int32) (υ : hu_S) (Q : Nat → hu_S → Prop) : Prop := hu_gl g υ a0 (fun n2 => ((¬ a1 = n2 → hu_mB g υ a1 (fun q15 τ15 => (hu_gl g τ15 a0 (fun n23 => (hu_cp g τ15 a0 0 q15 0 (if a1 < n23 then a1 else n23) (fun τ28 => (Q q15 τ28))))))) ∧ (a1 = n2 → hu_cl g υ a0 (fun q7 τ7 => (Q q7 τ7)))))
set_option maxHeartbeats 4000000 in
set_option maxRecDepth 100000 in
theorem hk_J3_copyOf (l : Launch) (g : hu_G) (a0 : Nat) (a1 : Int32) {υ : hu_S} {Q : Nat → hu_S → Prop} (hf : hw_J3_copyOf g a0 a1 υ Q) : Met l yJ3_copyOf (ws_ yJ3_copyOf cJ3_copyOf 3 (some (.array .byte))) (hu_R 1 40 υ.2.1 υ.2.2) (va_Pc [.ref a0, .int a1] (hu_U g υ)) (va_Qr (fun _ : hu_S => True) (fun u r t => Q r u ∧ hu_V g u t.heap) (hg_A g)) υ.2.1 υ.2.2 (hg_A g) := by
  refine hu_Mr (Or.inr ⟨_, rfl⟩) (LV := [(0, .ref a0), (1, .int a1)]) (by decide) rfl (Nat.le_of_ble_eq_true rfl) (fun p e s m args below meth c H locs cells slots ls QQ C M hin hl hret => ?_)
  have hx := C.1.1
  have hb := C.1.2.1
  unfold hw_J3_copyOf at hf
  refine lv_iload_n hx hb dJ3_copyOf_0 rfl (lv_at hl 1 rfl) ?_
  refine lv_aload_n hx hb dJ3_copyOf_1 rfl (lv_at hl 0 rfl) ?_
  obtain ⟨nn_2, ff_2, e_2, hf⟩ := hf
  refine hu_blen C M e_2 dJ3_copyOf_2 ?_
  generalize nI nn_2 = n2 at hf ⊢
  obtain ⟨hft, hff⟩ := hf
  refine lv_icmp_ne (tgt := 14) hx hb dJ3_copyOf_3 (by decide) (fun c1 => ?_) (fun c1 => ?_)
  · have hf := hft c1
    refine lv_iload_n hx hb dJ3_copyOf_14 rfl (lv_at hl 1 rfl) ?_
    obtain ⟨m1_15, m2_15, m3_15, m4_15, hf⟩ := hf
    refine hu_newB C M (Nat.le_refl _) (Nat.le_refl _) q217 m1_15 m2_15 m3_15 m4_15 dJ3_copyOf_15 (fun q15 H f_15 M => ?_)
    have hf := hf q15 f_15
    generalize hu_new _ _ _ _ = τ15 at M hf
    generalize cells + 1 = cells at M ⊢
    generalize slots + Int32.toNatClampNeg a1 = slots at M ⊢
    refine lv_astore_n (lv' := [(2, .ref q15), (0, .ref a0), (1, .int a1)]) hx hb dJ3_copyOf_17 rfl hl (by decide) rfl (fun ls hl => ?_)
    refine lv_aload_n hx hb dJ3_copyOf_18 rfl (lv_at hl 1 rfl) ?_
    refine lv_iconst (v := 0) hx hb dJ3_copyOf_19 rfl ?_
    refine lv_aload_n hx hb dJ3_copyOf_20 rfl (lv_at hl 0 rfl) ?_
    refine lv_iconst (v := 0) hx hb dJ3_copyOf_21 rfl ?_
    refine lv_aload_n hx hb dJ3_copyOf_22 rfl (lv_at hl 1 rfl) ?_
    obtain ⟨nn_23, ff_23, e_23, hf⟩ := hf
    refine hu_blen C M e_23 dJ3_copyOf_23 ?_
    generalize nI nn_23 = n23 at hf ⊢
    refine lv_iload_n hx hb dJ3_copyOf_24 rfl (lv_at hl 2 rfl) ?_
    refine va_mmin hx hb (C.1.2.2.1.trans hl.1.symm) C.1.2.2.2.1 (C.1.2.2.2.2 _ q708) (C.1.2.2.2.2 _ q709) (C.1.2.2.2.2 _ q148) (C.1.2.2.2.2 _ q710) (Nat.le_of_ble_eq_true rfl) (Nat.le_of_ble_eq_true rfl) M.rc M.rs dJ3_copyOf_25 ?_
    refine hu_copyB C M hl.1 q711 q713 q712 q149 hf (Nat.le_of_ble_eq_true rfl) (Nat.le_of_ble_eq_true rfl) dJ3_copyOf_28 (fun τ28 H locs hf M => ?_)
    refine lv_aload_n hx hb dJ3_copyOf_31 rfl (lv_at hl 0 rfl) ?_
    exact hret _ _ _ _ _ _ _ _ dJ3_copyOf_32 M hf
  · have hf := hff c1
    refine lv_aload_n hx hb dJ3_copyOf_6 rfl (lv_at hl 0 rfl) ?_
    refine hu_clone C M hl.1 (Nat.le_refl _) (Nat.le_refl _) q701 q702 q703 q704 q705 q706 hf (Nat.le_of_ble_eq_true rfl) (Nat.le_of_ble_eq_true rfl) dJ3_copyOf_7 (fun q7 n_7 f_7 τ7 H hf e_7 M => ?_)
    generalize cells + 1 = cells at M ⊢
    generalize slots + n_7 = slots at M ⊢
    refine hu_castB C M q707 e_7 dJ3_copyOf_10 ?_
    exact hret _ _ _ _ _ _ _ _ dJ3_copyOf_13 M hf
def hw_J11_ensureCapacityInternal (g : hu_G) (o : Nat) (a1 : Int32) (υ : hu_S) (Q : hu_S → Prop) : Prop := hu_gr g υ o 2 0 (fun x1 => (hu_gl g υ x1 (fun n4 => (hu_gi g υ o 2 1 (fun x6 => (((a1 - (n4 >>> (x6 &&& 31))) ≤ 0 → Q υ) ∧ (¬ (a1 - (n4 >>> (x6 &&& 31))) ≤ 0 → hu_gr g υ o 2 0 (fun x19 => (hu_k g υ o 2 ∧ (hu_c υ (hw_J11_newCapacity g o a1) (fun r24 τ24 => (hu_gi g τ24 o 2 1 (fun x28 => (hu_c τ24 (hw_J3_copyOf g x19 (r24 <<< (x28 &&& 31))) (fun r32 τ32 => (hu_pt τ32 o 2 0 (.ref r32) (fun τ35 => (Q τ35))))))))))))))))))
set_option maxHeartbeats 4000000 in
set_option maxRecDepth 100000 in
theorem hk_J11_ensureCapacityInternal (l : Launch) (g : hu_G) (o : Nat) (a1 : Int32) {υ : hu_S} {Q : hu_S → Prop} (hf : hw_J11_ensureCapacityInternal g o a1 υ Q) : Met l yJ11_ensureCapacityInternal (ws_ yJ11_ensureCapacityInternal cJ11_ensureCapacityInternal 3 none) (hu_R 3 69 υ.2.1 υ.2.2) (va_Pc [.ref o, .int a1] (hu_U g υ)) (va_Qv Q (hu_B g) (hg_A g)) υ.2.1 υ.2.2 (hg_A g) := by
  refine hu_Mv (LV := [(0, .ref o), (1, .int a1)]) (by decide) rfl (Nat.le_of_ble_eq_true rfl) (fun p e s m args below meth c H locs cells slots ls QQ C M hin hl hret => ?_)
  have hx := C.1.1
  have hb := C.1.2.1
  unfold hw_J11_ensureCapacityInternal at hf
  refine lv_aload_n hx hb dJ11_ensureCapacityInternal_0 rfl (lv_at hl 0 rfl) ?_
  obtain ⟨x1, e_1, hf⟩ := hf
  refine hu_get C M e_1 (CN := RJ12) (T := TJ12) (N := 4) rfl in_J12 (by decide) q659 dJ11_ensureCapacityInternal_1 ?_
  obtain ⟨nn_4, ff_4, e_4, hf⟩ := hf
  refine hu_blen C M e_4 dJ11_ensureCapacityInternal_4 ?_
  generalize nI nn_4 = n4 at hf ⊢
  refine lv_aload_n hx hb dJ11_ensureCapacityInternal_5 rfl (lv_at hl 0 rfl) ?_
  obtain ⟨x6, e_6, hf⟩ := hf
  refine hu_get C M e_6 (CN := RJ12) (T := TJ12) (N := 4) rfl in_J12 (by decide) q660 dJ11_ensureCapacityInternal_6 ?_
  refine lv_ishr hx hb dJ11_ensureCapacityInternal_9 ?_
  refine lv_istore_n (lv' := [(2, .int (n4 >>> (x6 &&& 31))), (0, .ref o), (1, .int a1)]) hx hb dJ11_ensureCapacityInternal_10 rfl hl (by decide) rfl (fun ls hl => ?_)
  refine lv_iload_n hx hb dJ11_ensureCapacityInternal_11 rfl (lv_at hl 2 rfl) ?_
  refine lv_iload_n hx hb dJ11_ensureCapacityInternal_12 rfl (lv_at hl 0 rfl) ?_
  refine lv_isub hx hb dJ11_ensureCapacityInternal_13 ?_
  obtain ⟨hft, hff⟩ := hf
  refine lv_if_le (tgt := 38) hx hb dJ11_ensureCapacityInternal_14 (by decide) (fun c1 => ?_) (fun c1 => ?_)
  · have hf := hft c1
    exact hret _ _ _ _ _ _ _ dJ11_ensureCapacityInternal_38 M hf
  · have hf := hff c1
    refine lv_aload_n hx hb dJ11_ensureCapacityInternal_17 rfl (lv_at hl 1 rfl) ?_
    refine lv_aload_n hx hb dJ11_ensureCapacityInternal_18 rfl (lv_at hl 1 rfl) ?_
    obtain ⟨x19, e_19, hf⟩ := hf
    refine hu_get C M e_19 (CN := RJ12) (T := TJ12) (N := 4) rfl in_J12 (by decide) q659 dJ11_ensureCapacityInternal_19 ?_
    refine lv_aload_n hx hb dJ11_ensureCapacityInternal_22 rfl (lv_at hl 1 rfl) ?_
    refine lv_iload_n hx hb dJ11_ensureCapacityInternal_23 rfl (lv_at hl 2 rfl) ?_
    obtain ⟨g_24, hf⟩ := hf
    obtain ⟨cc_24, cs_24, h1_24, h2_24, hf⟩ := hf
    refine hu_ki M h1_24 h2_24 (hu_rU C M hl.1 (Nat.le_refl _) (Nat.le_refl _) h1_24 h2_24 g_24 rfl (As := [.int a1]) (rest := [.ref x19, .ref o]) (n := 1) (hk_J11_newCapacity l g o a1 (υ := (υ.1, cc_24, cs_24)) hf) q683 q2716 (va_Decl.of (C.1.2.2.2.2 _ q685) (C.1.2.2.2.2 _ q686)) q685 (M.2.2.2.2.1.2.2.2.2.2.2.2.2.2 _ (List.mem_of_getElem? (i := 1) rfl) _) q143 q686 (by decide +kernel) rfl ⟨Nat.le_of_ble_eq_true rfl, Nat.le_of_ble_eq_true rfl⟩ rfl (Nat.le_of_ble_eq_true rfl) dJ11_ensureCapacityInternal_24) (fun r24 u9 H locs hf M => ?_)
    generalize (u9.1, υ.2.1 - cc_24, υ.2.2 - cs_24) = τ24 at M hf
    generalize cells + cc_24 = cells at M ⊢
    generalize slots + cs_24 = slots at M ⊢
    refine lv_aload_n hx hb dJ11_ensureCapacityInternal_27 rfl (lv_at hl 1 rfl) ?_
    obtain ⟨x28, e_28, hf⟩ := hf
    refine hu_get C M e_28 (CN := RJ12) (T := TJ12) (N := 4) rfl in_J12 (by decide) q660 dJ11_ensureCapacityInternal_28 ?_
    refine lv_ishl hx hb dJ11_ensureCapacityInternal_31 ?_
    obtain ⟨cc_32, cs_32, h1_32, h2_32, hf⟩ := hf
    refine hu_kr M h1_32 h2_32 (hu_rS C M hl.1 (Nat.le_refl _) (Nat.le_refl _) h1_32 h2_32 (As := [.ref x19, .int (r24 <<< (x28 &&& 31))]) (rest := [.ref o]) (n := 2) (hk_J3_copyOf l g x19 (r24 <<< (x28 &&& 31)) (υ := (τ24.1, cc_32, cs_32)) hf) q698 q699 q131 q700 (by decide +kernel) rfl ⟨Nat.le_of_ble_eq_true rfl, Nat.le_of_ble_eq_true rfl⟩ rfl (Nat.le_of_ble_eq_true rfl) dJ11_ensureCapacityInternal_32) (fun r32 u9 H locs hf M => ?_)
    generalize (u9.1, τ24.2.1 - cc_32, τ24.2.2 - cs_32) = τ32 at M hf
    generalize cells + cc_32 = cells at M ⊢
    generalize slots + cs_32 = slots at M ⊢
    obtain ⟨g_35, hf⟩ := hf
    refine hu_put0 C M g_35 (CN := RJ12) (T := TJ12) (N := 4) rfl in_J12 tyJ12 tyJ12_ok nmJ12 (by decide) q659 rfl (ty := .array .byte) (by decide +kernel) rfl rfl dJ11_ensureCapacityInternal_35 (fun H locs M => ?_)
    generalize hu_put τ32 o 0 (.ref r32) = τ35 at M hf
    exact hret _ _ _ _ _ _ _ dJ11_ensureCapacityInternal_38 M hf
def hw_J11_append_b45 (g : hu_G) (o : Nat) (v1_45 : Int32) (σ45 : hu_S) (Q : Nat → hu_S → Prop) : Prop := hu_k g σ45 o 2 ∧ (hu_c σ45 (hw_J11_isLatin1 g o) (fun r46 τ46 => ((r46 = 0 → hu_gr g τ46 o 2 0 (fun x57 => (hu_gi g τ46 o 2 3 (fun x62 => (hu_pt τ46 o 2 3 (.int (x62 + 1)) (fun τ68 => (False))))))) ∧ (¬ r46 = 0 → False))))
def hw_J11_append (g : hu_G) (o : Nat) (a1 : Int32) (υ : hu_S) (Q : Nat → hu_S → Prop) : Prop := hu_gi g υ o 2 3 (fun x2 => (hu_k g υ o 2 ∧ (hu_cv υ (hw_J11_ensureCapacityInternal g o (x2 + 1)) (fun τ7 => (hu_k g τ7 o 2 ∧ (hu_c τ7 (hw_J11_isLatin1 g o) (fun r11 τ11 => ((r11 = 0 → hw_J11_append_b45 g o  a1 τ11 Q) ∧ (¬ r11 = 0 → hu_c τ11 (hw_J17_canEncode g a1) (fun r18 τ18 => ((r18 = 0 → hw_J11_append_b45 g o  a1 τ18 Q) ∧ (¬ r18 = 0 → hu_gr g τ18 o 2 0 (fun x25 => (hu_gi g τ18 o 2 3 (fun x30 => (hu_pt τ18 o 2 3 (.int (x30 + 1)) (fun τ36 => (hu_sb τ36 x25 x30 a1.toInt8.toInt32 (fun τ41 => (Q o τ41))))))))))))))))))))
set_option maxHeartbeats 4000000 in
set_option maxRecDepth 100000 in
theorem hk_J11_append (l : Launch) (g : hu_G) (o : Nat) (a1 : Int32) {υ : hu_S} {Q : Nat → hu_S → Prop} (hf : hw_J11_append g o a1 υ Q) : Met l yJ11_append (ws_ yJ11_append cJ11_append 2 (some (.object "java/lang/AbstractStringBuilder"))) (hu_R 4 91 υ.2.1 υ.2.2) (va_Pc [.ref o, .int a1] (hu_U g υ)) (va_Qr (fun _ : hu_S => True) (fun u r t => Q r u ∧ hu_V g u t.heap) (hg_A g)) υ.2.1 υ.2.2 (hg_A g) := by
  refine hu_Mr (Or.inl ⟨_, rfl⟩) (LV := [(0, .ref o), (1, .int a1)]) (by decide) rfl (Nat.le_of_ble_eq_true rfl) (fun p e s m args below meth c H locs cells slots ls QQ C M hin hl hret => ?_)
  have hx := C.1.1
  have hb := C.1.2.1
  unfold hw_J11_append at hf
  have B45 : ∀ (v1_45 : Int32) (σ45 : hu_S) (H : Heap) (locs : List Loc) (cells slots : Nat) (ls : Array Slot), hu_M g s υ.2.1 υ.2.2 σ45 H locs cells slots → lv_has ls 2 [(0, .ref o), (1, .int v1_45)] → hw_J11_append_b45 g o  v1_45 σ45 Q → W p l e (hu_R 4 91 υ.2.1 υ.2.2) s m args below meth c H locs cells slots QQ (F0 m 45 ls []) := by
    intro v1_45 σ45 H locs cells slots ls M hl hf
    refine lv_aload_n hx hb dJ11_append_45 rfl (lv_at hl 0 rfl) ?_
    obtain ⟨g_46, hf⟩ := hf
    obtain ⟨cc_46, cs_46, h1_46, h2_46, hf⟩ := hf
    refine hu_ki M h1_46 h2_46 (hu_rU C M hl.1 (Nat.le_refl _) (Nat.le_refl _) h1_46 h2_46 g_46 rfl (As := []) (rest := []) (n := 0) (hk_J11_isLatin1 l g o (υ := (σ45.1, cc_46, cs_46)) hf) q714 q716 (va_Decl.of (C.1.2.2.2.2 _ q715) (C.1.2.2.2.2 _ q718)) q715 (C.1.2.2.2.2 _ q717) q143 q718 (by decide +kernel) rfl ⟨Nat.le_of_ble_eq_true rfl, Nat.le_of_ble_eq_true rfl⟩ rfl (Nat.le_of_ble_eq_true rfl) dJ11_append_46) (fun r46 u9 H locs hf M => ?_)
    generalize (u9.1, σ45.2.1 - cc_46, σ45.2.2 - cs_46) = τ46 at M hf
    generalize cells + cc_46 = cells at M ⊢
    generalize slots + cs_46 = slots at M ⊢
    obtain ⟨hft, hff⟩ := hf
    refine lv_if_eq (tgt := 56) hx hb dJ11_append_49 (by decide) (fun c1 => ?_) (fun c1 => ?_)
    · have hf := hft c1
      refine lv_aload_n hx hb dJ11_append_56 rfl (lv_at hl 0 rfl) ?_
      obtain ⟨x57, e_57, hf⟩ := hf
      refine hu_get C M e_57 (CN := RJ12) (T := TJ12) (N := 4) rfl in_J12 (by decide) q659 dJ11_append_57 ?_
      refine lv_aload_n hx hb dJ11_append_60 rfl (lv_at hl 0 rfl) ?_
      refine lv_dup hx hb dJ11_append_61 rfl ?_
      obtain ⟨x62, e_62, hf⟩ := hf
      refine hu_get C M e_62 (CN := RJ12) (T := TJ12) (N := 4) rfl in_J12 (by decide) q662 dJ11_append_62 ?_
      refine lv_dup_x1 hx hb dJ11_append_65 rfl rfl ?_
      refine lv_iconst (v := 1) hx hb dJ11_append_66 rfl ?_
      refine lv_iadd hx hb dJ11_append_67 ?_
      obtain ⟨g_68, hf⟩ := hf
      refine hu_put0 C M g_68 (CN := RJ12) (T := TJ12) (N := 4) rfl in_J12 tyJ12 tyJ12_ok nmJ12 (by decide) q662 rfl (ty := .int) (by decide +kernel) rfl rfl dJ11_append_68 (fun H locs M => ?_)
      generalize hu_put τ46 o 3 (.int (x62 + 1)) = τ68 at M hf
      refine lv_iload_n hx hb dJ11_append_71 rfl (lv_at hl 1 rfl) ?_
      exact hf.elim
    · have hf := hff c1
      refine lv_aload_n hx hb dJ11_append_52 rfl (lv_at hl 0 rfl) ?_
      exact hf.elim
  refine lv_aload_n hx hb dJ11_append_0 rfl (lv_at hl 0 rfl) ?_
  refine lv_aload_n hx hb dJ11_append_1 rfl (lv_at hl 0 rfl) ?_
  obtain ⟨x2, e_2, hf⟩ := hf
  refine hu_get C M e_2 (CN := RJ12) (T := TJ12) (N := 4) rfl in_J12 (by decide) q662 dJ11_append_2 ?_
  refine lv_iconst (v := 1) hx hb dJ11_append_5 rfl ?_
  refine lv_iadd hx hb dJ11_append_6 ?_
  obtain ⟨g_7, hf⟩ := hf
  obtain ⟨cc_7, cs_7, h1_7, h2_7, hf⟩ := hf
  refine hu_kv M h1_7 h2_7 (hu_rU C M hl.1 (Nat.le_refl _) (Nat.le_refl _) h1_7 h2_7 g_7 rfl (As := [.int (x2 + 1)]) (rest := []) (n := 1) (hk_J11_ensureCapacityInternal l g o (x2 + 1) (υ := (υ.1, cc_7, cs_7)) hf) q679 q2715 (va_Decl.of (C.1.2.2.2.2 _ q681) (C.1.2.2.2.2 _ q682)) q681 (M.2.2.2.2.1.2.2.2.2.2.2.2.2.2 _ (List.mem_of_getElem? (i := 0) rfl) _) q143 q682 (by decide +kernel) rfl ⟨Nat.le_of_ble_eq_true rfl, Nat.le_of_ble_eq_true rfl⟩ rfl (Nat.le_of_ble_eq_true rfl) dJ11_append_7) (fun u9 H locs hf M => ?_)
  generalize (u9.1, υ.2.1 - cc_7, υ.2.2 - cs_7) = τ7 at M hf
  generalize cells + cc_7 = cells at M ⊢
  generalize slots + cs_7 = slots at M ⊢
  refine lv_aload_n hx hb dJ11_append_10 rfl (lv_at hl 0 rfl) ?_
  obtain ⟨g_11, hf⟩ := hf
  obtain ⟨cc_11, cs_11, h1_11, h2_11, hf⟩ := hf
  refine hu_ki M h1_11 h2_11 (hu_rU C M hl.1 (Nat.le_refl _) (Nat.le_refl _) h1_11 h2_11 g_11 rfl (As := []) (rest := []) (n := 0) (hk_J11_isLatin1 l g o (υ := (τ7.1, cc_11, cs_11)) hf) q714 q716 (va_Decl.of (C.1.2.2.2.2 _ q715) (C.1.2.2.2.2 _ q718)) q715 (C.1.2.2.2.2 _ q717) q143 q718 (by decide +kernel) rfl ⟨Nat.le_of_ble_eq_true rfl, Nat.le_of_ble_eq_true rfl⟩ rfl (Nat.le_of_ble_eq_true rfl) dJ11_append_11) (fun r11 u9 H locs hf M => ?_)
  generalize (u9.1, τ7.2.1 - cc_11, τ7.2.2 - cs_11) = τ11 at M hf
  generalize cells + cc_11 = cells at M ⊢
  generalize slots + cs_11 = slots at M ⊢
  obtain ⟨hft, hff⟩ := hf
  refine lv_if_eq (tgt := 45) hx hb dJ11_append_14 (by decide) (fun c1 => ?_) (fun c1 => ?_)
  · have hf := hft c1
    exact B45 a1 τ11 _ _ _ _ _ M (lv_sub hl [0, 1] rfl) hf
  · have hf := hff c1
    refine lv_iload_n hx hb dJ11_append_17 rfl (lv_at hl 1 rfl) ?_
    obtain ⟨cc_18, cs_18, h1_18, h2_18, hf⟩ := hf
    refine hu_ki M h1_18 h2_18 (hu_rS C M hl.1 (Nat.le_refl _) (Nat.le_refl _) h1_18 h2_18 (As := [.int a1]) (rest := []) (n := 1) (hk_J17_canEncode l g a1 (υ := (τ11.1, cc_18, cs_18)) hf) q719 q720 q150 q721 (by decide +kernel) rfl ⟨Nat.le_of_ble_eq_true rfl, Nat.le_of_ble_eq_true rfl⟩ rfl (Nat.le_of_ble_eq_true rfl) dJ11_append_18) (fun r18 u9 H locs hf M => ?_)
    generalize (u9.1, τ11.2.1 - cc_18, τ11.2.2 - cs_18) = τ18 at M hf
    generalize cells + cc_18 = cells at M ⊢
    generalize slots + cs_18 = slots at M ⊢
    obtain ⟨hft, hff⟩ := hf
    refine lv_if_eq (tgt := 45) hx hb dJ11_append_21 (by decide) (fun c1 => ?_) (fun c1 => ?_)
    · have hf := hft c1
      exact B45 a1 τ18 _ _ _ _ _ M (lv_sub hl [0, 1] rfl) hf
    · have hf := hff c1
      refine lv_aload_n hx hb dJ11_append_24 rfl (lv_at hl 0 rfl) ?_
      obtain ⟨x25, e_25, hf⟩ := hf
      refine hu_get C M e_25 (CN := RJ12) (T := TJ12) (N := 4) rfl in_J12 (by decide) q659 dJ11_append_25 ?_
      refine lv_aload_n hx hb dJ11_append_28 rfl (lv_at hl 0 rfl) ?_
      refine lv_dup hx hb dJ11_append_29 rfl ?_
      obtain ⟨x30, e_30, hf⟩ := hf
      refine hu_get C M e_30 (CN := RJ12) (T := TJ12) (N := 4) rfl in_J12 (by decide) q662 dJ11_append_30 ?_
      refine lv_dup_x1 hx hb dJ11_append_33 rfl rfl ?_
      refine lv_iconst (v := 1) hx hb dJ11_append_34 rfl ?_
      refine lv_iadd hx hb dJ11_append_35 ?_
      obtain ⟨g_36, hf⟩ := hf
      refine hu_put0 C M g_36 (CN := RJ12) (T := TJ12) (N := 4) rfl in_J12 tyJ12 tyJ12_ok nmJ12 (by decide) q662 rfl (ty := .int) (by decide +kernel) rfl rfl dJ11_append_36 (fun H locs M => ?_)
      generalize hu_put τ18 o 3 (.int (x30 + 1)) = τ36 at M hf
      refine lv_iload_n hx hb dJ11_append_39 rfl (lv_at hl 1 rfl) ?_
      refine lv_i2b hx hb dJ11_append_40 rfl ?_
      obtain ⟨nn_41, ff_41, e_41, i_41, hf⟩ := hf
      refine hu_bast C M e_41 i_41 dJ11_append_41 (fun H locs M => ?_)
      generalize hu_set _ _ _ = τ41 at M hf
      refine lv_goto (tgt := 75) hx hb dJ11_append_42 (by decide) ?_
      refine lv_aload_n hx hb dJ11_append_75 rfl (lv_at hl 0 rfl) ?_
      exact hret _ _ _ _ _ _ _ _ dJ11_append_76 M hf
def hw_J12_append (g : hu_G) (o : Nat) (a1 : Int32) (υ : hu_S) (Q : Nat → hu_S → Prop) : Prop := hu_k g υ o 2 ∧ (hu_c υ (hw_J11_append g o a1) (fun r2 τ2 => (Q o τ2)))
set_option maxHeartbeats 4000000 in
set_option maxRecDepth 100000 in
theorem hk_J12_append (l : Launch) (g : hu_G) (o : Nat) (a1 : Int32) {υ : hu_S} {Q : Nat → hu_S → Prop} (hf : hw_J12_append g o a1 υ Q) : Met l yJ12_append (ws_ yJ12_append cJ12_append 2 (some (.object "java/lang/StringBuilder"))) (hu_R 5 112 υ.2.1 υ.2.2) (va_Pc [.ref o, .int a1] (hu_U g υ)) (va_Qr (fun _ : hu_S => True) (fun u r t => Q r u ∧ hu_V g u t.heap) (hg_A g)) υ.2.1 υ.2.2 (hg_A g) := by
  refine hu_Mr (Or.inl ⟨_, rfl⟩) (LV := [(0, .ref o), (1, .int a1)]) (by decide) rfl (Nat.le_of_ble_eq_true rfl) (fun p e s m args below meth c H locs cells slots ls QQ C M hin hl hret => ?_)
  have hx := C.1.1
  have hb := C.1.2.1
  unfold hw_J12_append at hf
  refine lv_aload_n hx hb dJ12_append_0 rfl (lv_at hl 0 rfl) ?_
  refine lv_iload_n hx hb dJ12_append_1 rfl (lv_at hl 1 rfl) ?_
  obtain ⟨g_2, hf⟩ := hf
  obtain ⟨cc_2, cs_2, h1_2, h2_2, hf⟩ := hf
  refine hu_kr M h1_2 h2_2 (hu_rSU C M hl.1 (Nat.le_refl _) (Nat.le_refl _) h1_2 h2_2 g_2 rfl (As := [.int a1]) (rest := []) (n := 1) (hk_J11_append l g o a1 (υ := (υ.1, cc_2, cs_2)) hf) q676 q2714 q671 q677 q143 q678 (by decide +kernel) rfl ⟨Nat.le_of_ble_eq_true rfl, Nat.le_of_ble_eq_true rfl⟩ rfl (Nat.le_of_ble_eq_true rfl) dJ12_append_2) (fun r2 u9 H locs hf M => ?_)
  generalize (u9.1, υ.2.1 - cc_2, υ.2.2 - cs_2) = τ2 at M hf
  generalize cells + cc_2 = cells at M ⊢
  generalize slots + cs_2 = slots at M ⊢
  refine lv_pop hx hb dJ12_append_5 rfl ?_
  refine lv_aload_n hx hb dJ12_append_6 rfl (lv_at hl 0 rfl) ?_
  exact hret _ _ _ _ _ _ _ _ dJ12_append_7 M hf
def hw_J13_getBytes (g : hu_G) (o : Nat) (a1 : Nat) (a2 : Int32) (a3 : Int32) (υ : hu_S) (Q : hu_S → Prop) : Prop := hu_k g υ o 3 ∧ (hu_c υ (hw_J13_coder g o) (fun r1 τ1 => ((¬ r1 = a3 → hu_gr g τ1 o 3 0 (fun x29 => (hu_gr g τ1 o 3 0 (fun x36 => (hu_gl g τ1 x36 (fun n39 => (False))))))) ∧ (r1 = a3 → hu_gr g τ1 o 3 0 (fun x9 => (hu_gr g τ1 o 3 0 (fun x18 => (hu_gl g τ1 x18 (fun n21 => (hu_cp g τ1 x9 0 a1 (a2 <<< (a3 &&& 31)) n21 (fun τ22 => (Q τ22))))))))))))
set_option maxHeartbeats 4000000 in
set_option maxRecDepth 100000 in
theorem hk_J13_getBytes (l : Launch) (g : hu_G) (o : Nat) (a1 : Nat) (a2 : Int32) (a3 : Int32) {υ : hu_S} {Q : hu_S → Prop} (hf : hw_J13_getBytes g o a1 a2 a3 υ Q) : Met l yJ13_getBytes (ws_ yJ13_getBytes cJ13_getBytes 4 none) (hu_R 1 40 υ.2.1 υ.2.2) (va_Pc [.ref o, .ref a1, .int a2, .int a3] (hu_U g υ)) (va_Qv Q (hu_B g) (hg_A g)) υ.2.1 υ.2.2 (hg_A g) := by
  refine hu_Mv (LV := [(0, .ref o), (1, .ref a1), (2, .int a2), (3, .int a3)]) (by decide) rfl (Nat.le_of_ble_eq_true rfl) (fun p e s m args below meth c H locs cells slots ls QQ C M hin hl hret => ?_)
  have hx := C.1.1
  have hb := C.1.2.1
  unfold hw_J13_getBytes at hf
  refine lv_aload_n hx hb dJ13_getBytes_0 rfl (lv_at hl 0 rfl) ?_
  obtain ⟨g_1, hf⟩ := hf
  obtain ⟨cc_1, cs_1, h1_1, h2_1, hf⟩ := hf
  refine hu_ki M h1_1 h2_1 (hu_rV C M hl.1 (Nat.le_refl _) (Nat.le_refl _) h1_1 h2_1 g_1 rfl (As := []) (rest := []) (n := 0) (hk_J13_coder l g o (υ := (υ.1, cc_1, cs_1)) hf) q919 q920 q921 q145 q922 rfl (by decide +kernel) rfl ⟨Nat.le_of_ble_eq_true rfl, Nat.le_of_ble_eq_true rfl⟩ rfl (Nat.le_of_ble_eq_true rfl) dJ13_getBytes_1) (fun r1 u9 H locs hf M => ?_)
  generalize (u9.1, υ.2.1 - cc_1, υ.2.2 - cs_1) = τ1 at M hf
  generalize cells + cc_1 = cells at M ⊢
  generalize slots + cs_1 = slots at M ⊢
  refine lv_iload_n hx hb dJ13_getBytes_4 rfl (lv_at hl 3 rfl) ?_
  obtain ⟨hft, hff⟩ := hf
  refine lv_icmp_ne (tgt := 28) hx hb dJ13_getBytes_5 (by decide) (fun c1 => ?_) (fun c1 => ?_)
  · have hf := hft c1
    refine lv_aload_n hx hb dJ13_getBytes_28 rfl (lv_at hl 0 rfl) ?_
    obtain ⟨x29, e_29, hf⟩ := hf
    refine hu_get C M e_29 (CN := RJ13) (T := TJ13) (N := 4) rfl in_J13 (by decide) q815 dJ13_getBytes_29 ?_
    refine lv_iconst (v := 0) hx hb dJ13_getBytes_32 rfl ?_
    refine lv_aload_n hx hb dJ13_getBytes_33 rfl (lv_at hl 1 rfl) ?_
    refine lv_iload_n hx hb dJ13_getBytes_34 rfl (lv_at hl 2 rfl) ?_
    refine lv_aload_n hx hb dJ13_getBytes_35 rfl (lv_at hl 0 rfl) ?_
    obtain ⟨x36, e_36, hf⟩ := hf
    refine hu_get C M e_36 (CN := RJ13) (T := TJ13) (N := 4) rfl in_J13 (by decide) q815 dJ13_getBytes_36 ?_
    obtain ⟨nn_39, ff_39, e_39, hf⟩ := hf
    refine hu_blen C M e_39 dJ13_getBytes_39 ?_
    generalize nI nn_39 = n39 at hf ⊢
    exact hf.elim
  · have hf := hff c1
    refine lv_aload_n hx hb dJ13_getBytes_8 rfl (lv_at hl 0 rfl) ?_
    obtain ⟨x9, e_9, hf⟩ := hf
    refine hu_get C M e_9 (CN := RJ13) (T := TJ13) (N := 4) rfl in_J13 (by decide) q815 dJ13_getBytes_9 ?_
    refine lv_iconst (v := 0) hx hb dJ13_getBytes_12 rfl ?_
    refine lv_aload_n hx hb dJ13_getBytes_13 rfl (lv_at hl 1 rfl) ?_
    refine lv_iload_n hx hb dJ13_getBytes_14 rfl (lv_at hl 2 rfl) ?_
    refine lv_iload_n hx hb dJ13_getBytes_15 rfl (lv_at hl 3 rfl) ?_
    refine lv_ishl hx hb dJ13_getBytes_16 ?_
    refine lv_aload_n hx hb dJ13_getBytes_17 rfl (lv_at hl 0 rfl) ?_
    obtain ⟨x18, e_18, hf⟩ := hf
    refine hu_get C M e_18 (CN := RJ13) (T := TJ13) (N := 4) rfl in_J13 (by decide) q815 dJ13_getBytes_18 ?_
    obtain ⟨nn_21, ff_21, e_21, hf⟩ := hf
    refine hu_blen C M e_21 dJ13_getBytes_21 ?_
    generalize nI nn_21 = n21 at hf ⊢
    refine hu_copyB C M hl.1 q936 q713 q712 q149 hf (Nat.le_of_ble_eq_true rfl) (Nat.le_of_ble_eq_true rfl) dJ13_getBytes_22 (fun τ22 H locs hf M => ?_)
    refine lv_goto (tgt := 43) hx hb dJ13_getBytes_25 (by decide) ?_
    exact hret _ _ _ _ _ _ _ dJ13_getBytes_43 M hf
def hw_J11_inflateIfNeededFor (g : hu_G) (o : Nat) (a1 : Nat) (υ : hu_S) (Q : hu_S → Prop) : Prop := ((1 : Int32) = 0 → Q υ) ∧ (¬ (1 : Int32) = 0 → hu_gi g υ o 2 1 (fun x7 => (hu_k g υ a1 3 ∧ (hu_c υ (hw_J13_coder g a1) (fun r11 τ11 => ((x7 = r11 → Q τ11) ∧ (¬ x7 = r11 → False)))))))
set_option maxHeartbeats 4000000 in
set_option maxRecDepth 100000 in
theorem hk_J11_inflateIfNeededFor (l : Launch) (g : hu_G) (o : Nat) (a1 : Nat) {υ : hu_S} {Q : hu_S → Prop} (hf : hw_J11_inflateIfNeededFor g o a1 υ Q) : Met l yJ11_inflateIfNeededFor (ws_ yJ11_inflateIfNeededFor cJ11_inflateIfNeededFor 2 none) (hu_R 1 20 υ.2.1 υ.2.2) (va_Pc [.ref o, .ref a1] (hu_U g υ)) (va_Qv Q (hu_B g) (hg_A g)) υ.2.1 υ.2.2 (hg_A g) := by
  refine hu_Mv (LV := [(0, .ref o), (1, .ref a1)]) (by decide) rfl (Nat.le_of_ble_eq_true rfl) (fun p e s m args below meth c H locs cells slots ls QQ C M hin hl hret => ?_)
  have hx := C.1.1
  have hb := C.1.2.1
  unfold hw_J11_inflateIfNeededFor at hf
  refine va_gets hx hb M.2.2.2.2.1.2.1 M.2.2.1 C.1.2.2.2.1 (C.1.2.2.2.2 _ q650) (fun _ h => h) dJ11_inflateIfNeededFor_0 ?_
  obtain ⟨hft, hff⟩ := hf
  refine lv_if_eq (tgt := 21) hx hb dJ11_inflateIfNeededFor_3 (by decide) (fun c1 => ?_) (fun c1 => ?_)
  · have hf := hft c1
    exact hret _ _ _ _ _ _ _ dJ11_inflateIfNeededFor_21 M hf
  · have hf := hff c1
    refine lv_aload_n hx hb dJ11_inflateIfNeededFor_6 rfl (lv_at hl 0 rfl) ?_
    obtain ⟨x7, e_7, hf⟩ := hf
    refine hu_get C M e_7 (CN := RJ12) (T := TJ12) (N := 4) rfl in_J12 (by decide) q660 dJ11_inflateIfNeededFor_7 ?_
    refine lv_aload_n hx hb dJ11_inflateIfNeededFor_10 rfl (lv_at hl 1 rfl) ?_
    obtain ⟨g_11, hf⟩ := hf
    obtain ⟨cc_11, cs_11, h1_11, h2_11, hf⟩ := hf
    refine hu_ki M h1_11 h2_11 (hu_rV C M hl.1 (Nat.le_refl _) (Nat.le_refl _) h1_11 h2_11 g_11 rfl (As := []) (rest := [.int x7]) (n := 0) (hk_J13_coder l g a1 (υ := (υ.1, cc_11, cs_11)) hf) q931 q920 q921 q145 q922 rfl (by decide +kernel) rfl ⟨Nat.le_of_ble_eq_true rfl, Nat.le_of_ble_eq_true rfl⟩ rfl (Nat.le_of_ble_eq_true rfl) dJ11_inflateIfNeededFor_11) (fun r11 u9 H locs hf M => ?_)
    generalize (u9.1, υ.2.1 - cc_11, υ.2.2 - cs_11) = τ11 at M hf
    generalize cells + cc_11 = cells at M ⊢
    generalize slots + cs_11 = slots at M ⊢
    obtain ⟨hft, hff⟩ := hf
    refine lv_icmp_eq (tgt := 21) hx hb dJ11_inflateIfNeededFor_14 (by decide) (fun c1 => ?_) (fun c1 => ?_)
    · have hf := hft c1
      exact hret _ _ _ _ _ _ _ dJ11_inflateIfNeededFor_21 M hf
    · have hf := hff c1
      refine lv_aload_n hx hb dJ11_inflateIfNeededFor_17 rfl (lv_at hl 0 rfl) ?_
      exact hf.elim
def hw_J11_putStringAt (g : hu_G) (o : Nat) (a1 : Int32) (a2 : Nat) (υ : hu_S) (Q : hu_S → Prop) : Prop := hu_k g υ o 2 ∧ (hu_cv υ (hw_J11_inflateIfNeededFor g o a2) (fun τ2 => (hu_gr g τ2 o 2 0 (fun x7 => (hu_gi g τ2 o 2 1 (fun x12 => (hu_k g τ2 a2 3 ∧ (hu_cv τ2 (hw_J13_getBytes g a2 x7 a1 x12) (fun τ15 => (Q τ15))))))))))
set_option maxHeartbeats 4000000 in
set_option maxRecDepth 100000 in
theorem hk_J11_putStringAt (l : Launch) (g : hu_G) (o : Nat) (a1 : Int32) (a2 : Nat) {υ : hu_S} {Q : hu_S → Prop} (hf : hw_J11_putStringAt g o a1 a2 υ Q) : Met l yJ11_putStringAt (ws_ yJ11_putStringAt cJ11_putStringAt 3 none) (hu_R 2 63 υ.2.1 υ.2.2) (va_Pc [.ref o, .int a1, .ref a2] (hu_U g υ)) (va_Qv Q (hu_B g) (hg_A g)) υ.2.1 υ.2.2 (hg_A g) := by
  refine hu_Mv (LV := [(0, .ref o), (1, .int a1), (2, .ref a2)]) (by decide) rfl (Nat.le_of_ble_eq_true rfl) (fun p e s m args below meth c H locs cells slots ls QQ C M hin hl hret => ?_)
  have hx := C.1.1
  have hb := C.1.2.1
  unfold hw_J11_putStringAt at hf
  refine lv_aload_n hx hb dJ11_putStringAt_0 rfl (lv_at hl 0 rfl) ?_
  refine lv_aload_n hx hb dJ11_putStringAt_1 rfl (lv_at hl 2 rfl) ?_
  obtain ⟨g_2, hf⟩ := hf
  obtain ⟨cc_2, cs_2, h1_2, h2_2, hf⟩ := hf
  refine hu_kv M h1_2 h2_2 (hu_rU C M hl.1 (Nat.le_refl _) (Nat.le_refl _) h1_2 h2_2 g_2 rfl (As := [.ref a2]) (rest := []) (n := 1) (hk_J11_inflateIfNeededFor l g o a2 (υ := (υ.1, cc_2, cs_2)) hf) q927 q2721 (va_Decl.of (C.1.2.2.2.2 _ q929) (C.1.2.2.2.2 _ q930)) q929 (M.2.2.2.2.1.2.2.2.2.2.2.2.2.2 _ (List.mem_of_getElem? (i := 3) rfl) _) q143 q930 (by decide +kernel) rfl ⟨Nat.le_of_ble_eq_true rfl, Nat.le_of_ble_eq_true rfl⟩ rfl (Nat.le_of_ble_eq_true rfl) dJ11_putStringAt_2) (fun u9 H locs hf M => ?_)
  generalize (u9.1, υ.2.1 - cc_2, υ.2.2 - cs_2) = τ2 at M hf
  generalize cells + cc_2 = cells at M ⊢
  generalize slots + cs_2 = slots at M ⊢
  refine lv_aload_n hx hb dJ11_putStringAt_5 rfl (lv_at hl 2 rfl) ?_
  refine lv_aload_n hx hb dJ11_putStringAt_6 rfl (lv_at hl 0 rfl) ?_
  obtain ⟨x7, e_7, hf⟩ := hf
  refine hu_get C M e_7 (CN := RJ12) (T := TJ12) (N := 4) rfl in_J12 (by decide) q659 dJ11_putStringAt_7 ?_
  refine lv_iload_n hx hb dJ11_putStringAt_10 rfl (lv_at hl 1 rfl) ?_
  refine lv_aload_n hx hb dJ11_putStringAt_11 rfl (lv_at hl 0 rfl) ?_
  obtain ⟨x12, e_12, hf⟩ := hf
  refine hu_get C M e_12 (CN := RJ12) (T := TJ12) (N := 4) rfl in_J12 (by decide) q660 dJ11_putStringAt_12 ?_
  obtain ⟨g_15, hf⟩ := hf
  obtain ⟨cc_15, cs_15, h1_15, h2_15, hf⟩ := hf
  refine hu_kv M h1_15 h2_15 (hu_rV C M hl.1 (Nat.le_refl _) (Nat.le_refl _) h1_15 h2_15 g_15 rfl (As := [.ref x7, .int a1, .int x12]) (rest := []) (n := 3) (hk_J13_getBytes l g a2 x7 a1 x12 (υ := (τ2.1, cc_15, cs_15)) hf) q932 q933 q934 q145 q935 rfl (by decide +kernel) rfl ⟨Nat.le_of_ble_eq_true rfl, Nat.le_of_ble_eq_true rfl⟩ rfl (Nat.le_of_ble_eq_true rfl) dJ11_putStringAt_15) (fun u9 H locs hf M => ?_)
  generalize (u9.1, τ2.2.1 - cc_15, τ2.2.2 - cs_15) = τ15 at M hf
  generalize cells + cc_15 = cells at M ⊢
  generalize slots + cs_15 = slots at M ⊢
  exact hret _ _ _ _ _ _ _ dJ11_putStringAt_18 M hf
def hw_J11_append_2 (g : hu_G) (o : Nat) (a1 : Nat) (υ : hu_S) (Q : Nat → hu_S → Prop) : Prop := hu_k g υ a1 3 ∧ (hu_c υ (hw_J13_length g a1) (fun r10 τ10 => (hu_gi g τ10 o 2 3 (fun x16 => (hu_k g τ10 o 2 ∧ (hu_cv τ10 (hw_J11_ensureCapacityInternal g o (x16 + r10)) (fun τ21 => (hu_gi g τ21 o 2 3 (fun x26 => (hu_k g τ21 o 2 ∧ (hu_cv τ21 (hw_J11_putStringAt g o x26 a1) (fun τ30 => (hu_gi g τ30 o 2 3 (fun x35 => (hu_pt τ30 o 2 3 (.int (x35 + r10)) (fun τ40 => (Q o τ40)))))))))))))))))
set_option maxHeartbeats 4000000 in
set_option maxRecDepth 100000 in
theorem hk_J11_append_2 (l : Launch) (g : hu_G) (o : Nat) (a1 : Nat) {υ : hu_S} {Q : Nat → hu_S → Prop} (hf : hw_J11_append_2 g o a1 υ Q) : Met l yJ11_append_2 (ws_ yJ11_append_2 cJ11_append_2 3 (some (.object "java/lang/AbstractStringBuilder"))) (hu_R 4 91 υ.2.1 υ.2.2) (va_Pc [.ref o, .ref a1] (hu_U g υ)) (va_Qr (fun _ : hu_S => True) (fun u r t => Q r u ∧ hu_V g u t.heap) (hg_A g)) υ.2.1 υ.2.2 (hg_A g) := by
  refine hu_Mr (Or.inl ⟨_, rfl⟩) (LV := [(0, .ref o), (1, .ref a1)]) (by decide) rfl (Nat.le_of_ble_eq_true rfl) (fun p e s m args below meth c H locs cells slots ls QQ C M hin hl hret => ?_)
  have hx := C.1.1
  have hb := C.1.2.1
  unfold hw_J11_append_2 at hf
  refine lv_aload_n hx hb dJ11_append_2_0 rfl (lv_at hl 1 rfl) ?_
  refine lv_ifnonnull (tgt := 9) hx hb dJ11_append_2_1 (by decide) ?_
  refine lv_aload_n hx hb dJ11_append_2_9 rfl (lv_at hl 1 rfl) ?_
  obtain ⟨g_10, hf⟩ := hf
  obtain ⟨cc_10, cs_10, h1_10, h2_10, hf⟩ := hf
  refine hu_ki M h1_10 h2_10 (hu_rV C M hl.1 (Nat.le_refl _) (Nat.le_refl _) h1_10 h2_10 g_10 rfl (As := []) (rest := []) (n := 0) (hk_J13_length l g a1 (υ := (υ.1, cc_10, cs_10)) hf) q915 q916 q917 q145 q918 rfl (by decide +kernel) rfl ⟨Nat.le_of_ble_eq_true rfl, Nat.le_of_ble_eq_true rfl⟩ rfl (Nat.le_of_ble_eq_true rfl) dJ11_append_2_10) (fun r10 u9 H locs hf M => ?_)
  generalize (u9.1, υ.2.1 - cc_10, υ.2.2 - cs_10) = τ10 at M hf
  generalize cells + cc_10 = cells at M ⊢
  generalize slots + cs_10 = slots at M ⊢
  refine lv_istore_n (lv' := [(2, .int r10), (0, .ref o), (1, .ref a1)]) hx hb dJ11_append_2_13 rfl hl (by decide) rfl (fun ls hl => ?_)
  refine lv_aload_n hx hb dJ11_append_2_14 rfl (lv_at hl 1 rfl) ?_
  refine lv_aload_n hx hb dJ11_append_2_15 rfl (lv_at hl 1 rfl) ?_
  obtain ⟨x16, e_16, hf⟩ := hf
  refine hu_get C M e_16 (CN := RJ12) (T := TJ12) (N := 4) rfl in_J12 (by decide) q662 dJ11_append_2_16 ?_
  refine lv_iload_n hx hb dJ11_append_2_19 rfl (lv_at hl 0 rfl) ?_
  refine lv_iadd hx hb dJ11_append_2_20 ?_
  obtain ⟨g_21, hf⟩ := hf
  obtain ⟨cc_21, cs_21, h1_21, h2_21, hf⟩ := hf
  refine hu_kv M h1_21 h2_21 (hu_rU C M hl.1 (Nat.le_refl _) (Nat.le_refl _) h1_21 h2_21 g_21 rfl (As := [.int (x16 + r10)]) (rest := []) (n := 1) (hk_J11_ensureCapacityInternal l g o (x16 + r10) (υ := (τ10.1, cc_21, cs_21)) hf) q679 q2715 (va_Decl.of (C.1.2.2.2.2 _ q681) (C.1.2.2.2.2 _ q682)) q681 (M.2.2.2.2.1.2.2.2.2.2.2.2.2.2 _ (List.mem_of_getElem? (i := 0) rfl) _) q143 q682 (by decide +kernel) rfl ⟨Nat.le_of_ble_eq_true rfl, Nat.le_of_ble_eq_true rfl⟩ rfl (Nat.le_of_ble_eq_true rfl) dJ11_append_2_21) (fun u9 H locs hf M => ?_)
  generalize (u9.1, τ10.2.1 - cc_21, τ10.2.2 - cs_21) = τ21 at M hf
  generalize cells + cc_21 = cells at M ⊢
  generalize slots + cs_21 = slots at M ⊢
  refine lv_aload_n hx hb dJ11_append_2_24 rfl (lv_at hl 1 rfl) ?_
  refine lv_aload_n hx hb dJ11_append_2_25 rfl (lv_at hl 1 rfl) ?_
  obtain ⟨x26, e_26, hf⟩ := hf
  refine hu_get C M e_26 (CN := RJ12) (T := TJ12) (N := 4) rfl in_J12 (by decide) q662 dJ11_append_2_26 ?_
  refine lv_aload_n hx hb dJ11_append_2_29 rfl (lv_at hl 2 rfl) ?_
  obtain ⟨g_30, hf⟩ := hf
  obtain ⟨cc_30, cs_30, h1_30, h2_30, hf⟩ := hf
  refine hu_kv M h1_30 h2_30 (hu_rU C M hl.1 (Nat.le_refl _) (Nat.le_refl _) h1_30 h2_30 g_30 rfl (As := [.int x26, .ref a1]) (rest := []) (n := 2) (hk_J11_putStringAt l g o x26 a1 (υ := (τ21.1, cc_30, cs_30)) hf) q923 q2720 (va_Decl.of (C.1.2.2.2.2 _ q925) (C.1.2.2.2.2 _ q926)) q925 (M.2.2.2.2.1.2.2.2.2.2.2.2.2.2 _ (List.mem_of_getElem? (i := 2) rfl) _) q143 q926 (by decide +kernel) rfl ⟨Nat.le_of_ble_eq_true rfl, Nat.le_of_ble_eq_true rfl⟩ rfl (Nat.le_of_ble_eq_true rfl) dJ11_append_2_30) (fun u9 H locs hf M => ?_)
  generalize (u9.1, τ21.2.1 - cc_30, τ21.2.2 - cs_30) = τ30 at M hf
  generalize cells + cc_30 = cells at M ⊢
  generalize slots + cs_30 = slots at M ⊢
  refine lv_aload_n hx hb dJ11_append_2_33 rfl (lv_at hl 1 rfl) ?_
  refine lv_dup hx hb dJ11_append_2_34 rfl ?_
  obtain ⟨x35, e_35, hf⟩ := hf
  refine hu_get C M e_35 (CN := RJ12) (T := TJ12) (N := 4) rfl in_J12 (by decide) q662 dJ11_append_2_35 ?_
  refine lv_iload_n hx hb dJ11_append_2_38 rfl (lv_at hl 0 rfl) ?_
  refine lv_iadd hx hb dJ11_append_2_39 ?_
  obtain ⟨g_40, hf⟩ := hf
  refine hu_put0 C M g_40 (CN := RJ12) (T := TJ12) (N := 4) rfl in_J12 tyJ12 tyJ12_ok nmJ12 (by decide) q662 rfl (ty := .int) (by decide +kernel) rfl rfl dJ11_append_2_40 (fun H locs M => ?_)
  generalize hu_put τ30 o 3 (.int (x35 + r10)) = τ40 at M hf
  refine lv_aload_n hx hb dJ11_append_2_43 rfl (lv_at hl 1 rfl) ?_
  exact hret _ _ _ _ _ _ _ _ dJ11_append_2_44 M hf
def hw_J12_append_2 (g : hu_G) (o : Nat) (a1 : Nat) (υ : hu_S) (Q : Nat → hu_S → Prop) : Prop := hu_k g υ o 2 ∧ (hu_c υ (hw_J11_append_2 g o a1) (fun r2 τ2 => (Q o τ2)))
set_option maxHeartbeats 4000000 in
set_option maxRecDepth 100000 in
theorem hk_J12_append_2 (l : Launch) (g : hu_G) (o : Nat) (a1 : Nat) {υ : hu_S} {Q : Nat → hu_S → Prop} (hf : hw_J12_append_2 g o a1 υ Q) : Met l yJ12_append_2 (ws_ yJ12_append_2 cJ12_append_2 2 (some (.object "java/lang/StringBuilder"))) (hu_R 5 113 υ.2.1 υ.2.2) (va_Pc [.ref o, .ref a1] (hu_U g υ)) (va_Qr (fun _ : hu_S => True) (fun u r t => Q r u ∧ hu_V g u t.heap) (hg_A g)) υ.2.1 υ.2.2 (hg_A g) := by
  refine hu_Mr (Or.inl ⟨_, rfl⟩) (LV := [(0, .ref o), (1, .ref a1)]) (by decide) rfl (Nat.le_of_ble_eq_true rfl) (fun p e s m args below meth c H locs cells slots ls QQ C M hin hl hret => ?_)
  have hx := C.1.1
  have hb := C.1.2.1
  unfold hw_J12_append_2 at hf
  refine lv_aload_n hx hb dJ12_append_2_0 rfl (lv_at hl 0 rfl) ?_
  refine lv_aload_n hx hb dJ12_append_2_1 rfl (lv_at hl 1 rfl) ?_
  obtain ⟨g_2, hf⟩ := hf
  obtain ⟨cc_2, cs_2, h1_2, h2_2, hf⟩ := hf
  refine hu_kr M h1_2 h2_2 (hu_rSU C M hl.1 (Nat.le_refl _) (Nat.le_refl _) h1_2 h2_2 g_2 rfl (As := [.ref a1]) (rest := []) (n := 1) (hk_J11_append_2 l g o a1 (υ := (υ.1, cc_2, cs_2)) hf) q896 q2718 q671 q897 q143 q898 (by decide +kernel) rfl ⟨Nat.le_of_ble_eq_true rfl, Nat.le_of_ble_eq_true rfl⟩ rfl (Nat.le_of_ble_eq_true rfl) dJ12_append_2_2) (fun r2 u9 H locs hf M => ?_)
  generalize (u9.1, υ.2.1 - cc_2, υ.2.2 - cs_2) = τ2 at M hf
  generalize cells + cc_2 = cells at M ⊢
  generalize slots + cs_2 = slots at M ⊢
  refine lv_pop hx hb dJ12_append_2_5 rfl ?_
  refine lv_aload_n hx hb dJ12_append_2_6 rfl (lv_at hl 0 rfl) ?_
  exact hret _ _ _ _ _ _ _ _ dJ12_append_2_7 M hf
def hw_J12_append_3 (g : hu_G) (o : Nat) (a1 : Nat) (υ : hu_S) (Q : Nat → hu_S → Prop) : Prop := hu_k g υ o 2 ∧ (hu_c υ (hw_J12_append_2 g o a1) (fun r2 τ2 => (Q r2 τ2)))
set_option maxHeartbeats 4000000 in
set_option maxRecDepth 100000 in
theorem hk_J12_append_3 (l : Launch) (g : hu_G) (o : Nat) (a1 : Nat) {υ : hu_S} {Q : Nat → hu_S → Prop} (hf : hw_J12_append_3 g o a1 υ Q) : Met l yJ12_append_3 (ws_ yJ12_append_3 cJ12_append_3 2 (some (.object "java/lang/AbstractStringBuilder"))) (hu_R 6 134 υ.2.1 υ.2.2) (va_Pc [.ref o, .ref a1] (hu_U g υ)) (va_Qr (fun _ : hu_S => True) (fun u r t => Q r u ∧ hu_V g u t.heap) (hg_A g)) υ.2.1 υ.2.2 (hg_A g) := by
  refine hu_Mr (Or.inl ⟨_, rfl⟩) (LV := [(0, .ref o), (1, .ref a1)]) (by decide) rfl (Nat.le_of_ble_eq_true rfl) (fun p e s m args below meth c H locs cells slots ls QQ C M hin hl hret => ?_)
  have hx := C.1.1
  have hb := C.1.2.1
  unfold hw_J12_append_3 at hf
  refine lv_aload_n hx hb dJ12_append_3_0 rfl (lv_at hl 0 rfl) ?_
  refine lv_aload_n hx hb dJ12_append_3_1 rfl (lv_at hl 1 rfl) ?_
  obtain ⟨g_2, hf⟩ := hf
  obtain ⟨cc_2, cs_2, h1_2, h2_2, hf⟩ := hf
  refine hu_kr M h1_2 h2_2 (hu_rV C M hl.1 (Nat.le_refl _) (Nat.le_refl _) h1_2 h2_2 g_2 rfl (As := [.ref a1]) (rest := []) (n := 1) (hk_J12_append_2 l g o a1 (υ := (υ.1, cc_2, cs_2)) hf) q1619 q893 q894 q144 q895 rfl (by decide +kernel) rfl ⟨Nat.le_of_ble_eq_true rfl, Nat.le_of_ble_eq_true rfl⟩ rfl (Nat.le_of_ble_eq_true rfl) dJ12_append_3_2) (fun r2 u9 H locs hf M => ?_)
  generalize (u9.1, υ.2.1 - cc_2, υ.2.2 - cs_2) = τ2 at M hf
  generalize cells + cc_2 = cells at M ⊢
  generalize slots + cs_2 = slots at M ⊢
  exact hret _ _ _ _ _ _ _ _ dJ12_append_3_5 M hf
def hw_J11_init (g : hu_G) (o : Nat) (a1 : Int32) (υ : hu_S) (Q : hu_S → Prop) : Prop := ((1 : Int32) = 0 → False) ∧ (¬ (1 : Int32) = 0 → hu_mB g υ a1 (fun q12 τ12 => (hu_pt τ12 o 2 0 (.ref q12) (fun τ14 => (hu_pt τ14 o 2 1 (.int 0) (fun τ19 => (Q τ19)))))))
set_option maxHeartbeats 4000000 in
set_option maxRecDepth 100000 in
theorem hk_J11_init (l : Launch) (g : hu_G) (o : Nat) (a1 : Int32) {υ : hu_S} {Q : hu_S → Prop} (hf : hw_J11_init g o a1 υ Q) : Met l yJ11_init (ws_ yJ11_init cJ11_init 2 none) (hu_R 1 20 υ.2.1 υ.2.2) (va_Pc [.ref o, .int a1] (hu_U g υ)) (va_Qv Q (hu_B g) (hg_A g)) υ.2.1 υ.2.2 (hg_A g) := by
  refine hu_Mv (LV := [(0, .ref o), (1, .int a1)]) (by decide) rfl (Nat.le_of_ble_eq_true rfl) (fun p e s m args below meth c H locs cells slots ls QQ C M hin hl hret => ?_)
  have hx := C.1.1
  have hb := C.1.2.1
  unfold hw_J11_init at hf
  refine lv_aload_n hx hb dJ11_init_0 rfl (lv_at hl 0 rfl) ?_
  refine W.objInit hx hb C.1.2.2.2.1 (C.1.2.2.2.2 _ q649) (C.1.2.2.2.2 _ q180) (C.1.2.2.2.2 _ q181) rfl (hl.1.trans C.1.2.2.1.symm) rfl dJ11_init_1 (Nat.le_of_ble_eq_true rfl) (Nat.le_of_ble_eq_true rfl) ?_
  refine W.eq (g2 := F0 m 4 ls []) rfl ?_
  refine va_gets hx hb M.2.2.2.2.1.2.1 M.2.2.1 C.1.2.2.2.1 (C.1.2.2.2.2 _ q650) (fun _ h => h) dJ11_init_4 ?_
  obtain ⟨hft, hff⟩ := hf
  refine lv_if_eq (tgt := 25) hx hb dJ11_init_7 (by decide) (fun c1 => ?_) (fun c1 => ?_)
  · have hf := hft c1
    refine lv_aload_n hx hb dJ11_init_25 rfl (lv_at hl 0 rfl) ?_
    refine lv_iload_n hx hb dJ11_init_26 rfl (lv_at hl 1 rfl) ?_
    exact hf.elim
  · have hf := hff c1
    refine lv_aload_n hx hb dJ11_init_10 rfl (lv_at hl 0 rfl) ?_
    refine lv_iload_n hx hb dJ11_init_11 rfl (lv_at hl 1 rfl) ?_
    obtain ⟨m1_12, m2_12, m3_12, m4_12, hf⟩ := hf
    refine hu_newB C M (Nat.le_refl _) (Nat.le_refl _) q217 m1_12 m2_12 m3_12 m4_12 dJ11_init_12 (fun q12 H f_12 M => ?_)
    have hf := hf q12 f_12
    generalize hu_new _ _ _ _ = τ12 at M hf
    generalize cells + 1 = cells at M ⊢
    generalize slots + Int32.toNatClampNeg a1 = slots at M ⊢
    obtain ⟨g_14, hf⟩ := hf
    refine hu_put0 C M g_14 (CN := RJ12) (T := TJ12) (N := 4) rfl in_J12 tyJ12 tyJ12_ok nmJ12 (by decide) q659 rfl (ty := .array .byte) (by decide +kernel) rfl rfl dJ11_init_14 (fun H locs M => ?_)
    generalize hu_put τ12 o 0 (.ref q12) = τ14 at M hf
    refine lv_aload_n hx hb dJ11_init_17 rfl (lv_at hl 0 rfl) ?_
    refine lv_iconst (v := 0) hx hb dJ11_init_18 rfl ?_
    obtain ⟨g_19, hf⟩ := hf
    refine hu_put0 C M g_19 (CN := RJ12) (T := TJ12) (N := 4) rfl in_J12 tyJ12 tyJ12_ok nmJ12 (by decide) q660 rfl (ty := .byte) (by decide +kernel) rfl rfl dJ11_init_19 (fun H locs M => ?_)
    generalize hu_put τ14 o 1 (.int 0) = τ19 at M hf
    refine lv_goto (tgt := 38) hx hb dJ11_init_22 (by decide) ?_
    exact hret _ _ _ _ _ _ _ dJ11_init_38 M hf
def hw_J12_init (g : hu_G) (o : Nat) (υ : hu_S) (Q : hu_S → Prop) : Prop := hu_cv υ (hw_J11_init g o 16) (fun τ3 => (Q τ3))
set_option maxHeartbeats 4000000 in
set_option maxRecDepth 100000 in
theorem hk_J12_init (l : Launch) (g : hu_G) (o : Nat) {υ : hu_S} {Q : hu_S → Prop} (hf : hw_J12_init g o υ Q) : Met l yJ12_init (ws_ yJ12_init cJ12_init 1 none) (hu_R 2 41 υ.2.1 υ.2.2) (va_Pc [.ref o] (hu_U g υ)) (va_Qv Q (hu_B g) (hg_A g)) υ.2.1 υ.2.2 (hg_A g) := by
  refine hu_Mv (LV := [(0, .ref o)]) (by decide) rfl (Nat.le_of_ble_eq_true rfl) (fun p e s m args below meth c H locs cells slots ls QQ C M hin hl hret => ?_)
  have hx := C.1.1
  have hb := C.1.2.1
  unfold hw_J12_init at hf
  refine lv_aload_n hx hb dJ12_init_0 rfl (lv_at hl 0 rfl) ?_
  refine lv_bipush (v := 16) hx hb dJ12_init_1 rfl ?_
  obtain ⟨cc_3, cs_3, h1_3, h2_3, hf⟩ := hf
  refine hu_kv M h1_3 h2_3 (hu_rI C M hl.1 (Nat.le_refl _) (Nat.le_refl _) h1_3 h2_3 (As := [.int 16]) (rest := []) (n := 1) (hk_J11_init l g o 16 (υ := (υ.1, cc_3, cs_3)) hf) rfl q646 q647 q143 q648 (by decide +kernel) rfl ⟨Nat.le_of_ble_eq_true rfl, Nat.le_of_ble_eq_true rfl⟩ rfl (Nat.le_of_ble_eq_true rfl) dJ12_init_3) (fun u9 H locs hf M => ?_)
  generalize (u9.1, υ.2.1 - cc_3, υ.2.2 - cs_3) = τ3 at M hf
  generalize cells + cc_3 = cells at M ⊢
  generalize slots + cs_3 = slots at M ⊢
  exact hret _ _ _ _ _ _ _ dJ12_init_6 M hf
def hw_J11_init_2_b24 (g : hu_G) (o : Nat) (v1_24 : Nat) (t0_24 : Int32) (σ24 : hu_S) (Q : hu_S → Prop) : Prop := hu_k g σ24 v1_24 3 ∧ (hu_c σ24 (hw_J13_coder g v1_24) (fun r26 τ26 => ((narrow .byte (.int r26) = .int r26 ∧ fits .byte (.int r26) = true) ∧ (hu_pt τ26 o 2 1 (.int r26) (fun τ34 => ((¬ r26 = 0 → False) ∧ (r26 = 0 → hu_mB g τ34 t0_24 (fun q44 τ44 => (hu_pt τ44 o 2 0 (.ref q44) (fun τ53 => (hu_k g τ53 o 2 ∧ (hu_c τ53 (hw_J12_append_3 g o v1_24) (fun r58 τ58 => (Q τ58))))))))))))))
def hw_J11_init_2 (g : hu_G) (o : Nat) (a1 : Nat) (υ : hu_S) (Q : hu_S → Prop) : Prop := hu_k g υ a1 3 ∧ (hu_c υ (hw_J13_length g a1) (fun r5 τ5 => ((2147483631 ≤ r5 → hw_J11_init_2_b24 g o  a1 2147483647 τ5 Q) ∧ (¬ 2147483631 ≤ r5 → hw_J11_init_2_b24 g o  a1 (r5 + 16) τ5 Q))))
set_option maxHeartbeats 4000000 in
set_option maxRecDepth 100000 in
theorem hk_J11_init_2 (l : Launch) (g : hu_G) (o : Nat) (a1 : Nat) {υ : hu_S} {Q : hu_S → Prop} (hf : hw_J11_init_2 g o a1 υ Q) : Met l yJ11_init_2 (ws_ yJ11_init_2 cJ11_init_2 5 none) (hu_R 7 155 υ.2.1 υ.2.2) (va_Pc [.ref o, .ref a1] (hu_U g υ)) (va_Qv Q (hu_B g) (hg_A g)) υ.2.1 υ.2.2 (hg_A g) := by
  refine hu_Mv (LV := [(0, .ref o), (1, .ref a1)]) (by decide) rfl (Nat.le_of_ble_eq_true rfl) (fun p e s m args below meth c H locs cells slots ls QQ C M hin hl hret => ?_)
  have hx := C.1.1
  have hb := C.1.2.1
  unfold hw_J11_init_2 at hf
  have B24 : ∀ (v1_24 : Nat) (t0_24 : Int32) (σ24 : hu_S) (H : Heap) (locs : List Loc) (cells slots : Nat) (ls : Array Slot), hu_M g s υ.2.1 υ.2.2 σ24 H locs cells slots → lv_has ls 5 [(0, .ref o), (1, .ref v1_24)] → hw_J11_init_2_b24 g o  v1_24 t0_24 σ24 Q → W p l e (hu_R 7 155 υ.2.1 υ.2.2) s m args below meth c H locs cells slots QQ (F0 m 24 ls [.int t0_24]) := by
    intro v1_24 t0_24 σ24 H locs cells slots ls M hl hf
    refine lv_istore_n (lv' := [(3, .int t0_24), (0, .ref o), (1, .ref v1_24)]) hx hb dJ11_init_2_24 rfl hl (by decide) rfl (fun ls hl => ?_)
    refine lv_aload_n hx hb dJ11_init_2_25 rfl (lv_at hl 2 rfl) ?_
    obtain ⟨g_26, hf⟩ := hf
    obtain ⟨cc_26, cs_26, h1_26, h2_26, hf⟩ := hf
    refine hu_ki M h1_26 h2_26 (hu_rV C M hl.1 (Nat.le_refl _) (Nat.le_refl _) h1_26 h2_26 g_26 rfl (As := []) (rest := []) (n := 0) (hk_J13_coder l g v1_24 (υ := (σ24.1, cc_26, cs_26)) hf) q931 q920 q921 q145 q922 rfl (by decide +kernel) rfl ⟨Nat.le_of_ble_eq_true rfl, Nat.le_of_ble_eq_true rfl⟩ rfl (Nat.le_of_ble_eq_true rfl) dJ11_init_2_26) (fun r26 u9 H locs hf M => ?_)
    generalize (u9.1, σ24.2.1 - cc_26, σ24.2.2 - cs_26) = τ26 at M hf
    generalize cells + cc_26 = cells at M ⊢
    generalize slots + cs_26 = slots at M ⊢
    refine lv_istore (lv' := [(4, .int r26), (3, .int t0_24), (0, .ref o), (1, .ref v1_24)]) hx hb dJ11_init_2_29 hl (by decide) rfl (fun ls hl => ?_)
    refine lv_aload_n hx hb dJ11_init_2_31 rfl (lv_at hl 2 rfl) ?_
    refine lv_iload hx hb dJ11_init_2_32 (lv_at hl 0 rfl) ?_
    obtain ⟨hB_34, hf⟩ := hf
    obtain ⟨g_34, hf⟩ := hf
    refine hu_put0 C M g_34 (CN := RJ12) (T := TJ12) (N := 4) rfl in_J12 tyJ12 tyJ12_ok nmJ12 (by decide) q660 rfl (ty := .byte) (by decide +kernel) hB_34.1 hB_34.2 dJ11_init_2_34 (fun H locs M => ?_)
    generalize hu_put τ26 o 1 (.int r26) = τ34 at M hf
    refine lv_aload_n hx hb dJ11_init_2_37 rfl (lv_at hl 2 rfl) ?_
    refine lv_iload hx hb dJ11_init_2_38 (lv_at hl 0 rfl) ?_
    obtain ⟨hft, hff⟩ := hf
    refine lv_if_ne (tgt := 49) hx hb dJ11_init_2_40 (by decide) (fun c1 => ?_) (fun c1 => ?_)
    · have hf := hft c1
      refine lv_iload_n hx hb dJ11_init_2_49 rfl (lv_at hl 1 rfl) ?_
      exact hf.elim
    · have hf := hff c1
      refine lv_iload_n hx hb dJ11_init_2_43 rfl (lv_at hl 1 rfl) ?_
      obtain ⟨m1_44, m2_44, m3_44, m4_44, hf⟩ := hf
      refine hu_newB C M (Nat.le_refl _) (Nat.le_refl _) q217 m1_44 m2_44 m3_44 m4_44 dJ11_init_2_44 (fun q44 H f_44 M => ?_)
      have hf := hf q44 f_44
      generalize hu_new _ _ _ _ = τ44 at M hf
      generalize cells + 1 = cells at M ⊢
      generalize slots + Int32.toNatClampNeg t0_24 = slots at M ⊢
      refine lv_goto (tgt := 53) hx hb dJ11_init_2_46 (by decide) ?_
      obtain ⟨g_53, hf⟩ := hf
      refine hu_put0 C M g_53 (CN := RJ12) (T := TJ12) (N := 4) rfl in_J12 tyJ12 tyJ12_ok nmJ12 (by decide) q659 rfl (ty := .array .byte) (by decide +kernel) rfl rfl dJ11_init_2_53 (fun H locs M => ?_)
      generalize hu_put τ44 o 0 (.ref q44) = τ53 at M hf
      refine lv_aload_n hx hb dJ11_init_2_56 rfl (lv_at hl 2 rfl) ?_
      refine lv_aload_n hx hb dJ11_init_2_57 rfl (lv_at hl 3 rfl) ?_
      obtain ⟨g_58, hf⟩ := hf
      obtain ⟨cc_58, cs_58, h1_58, h2_58, hf⟩ := hf
      refine hu_kr M h1_58 h2_58 (hu_rU C M hl.1 (Nat.le_refl _) (Nat.le_refl _) h1_58 h2_58 g_58 rfl (As := [.ref v1_24]) (rest := []) (n := 1) (hk_J12_append_3 l g o v1_24 (υ := (τ53.1, cc_58, cs_58)) hf) q1616 q2718 (va_Decl.of (C.1.2.2.2.2 _ q897) (C.1.2.2.2.2 _ q898)) q1617 (C.1.2.2.2.2 _ q2742) q144 q1618 (by decide +kernel) rfl ⟨Nat.le_of_ble_eq_true rfl, Nat.le_of_ble_eq_true rfl⟩ rfl (Nat.le_of_ble_eq_true rfl) dJ11_init_2_58) (fun r58 u9 H locs hf M => ?_)
      generalize (u9.1, τ53.2.1 - cc_58, τ53.2.2 - cs_58) = τ58 at M hf
      generalize cells + cc_58 = cells at M ⊢
      generalize slots + cs_58 = slots at M ⊢
      refine lv_pop hx hb dJ11_init_2_61 rfl ?_
      exact hret _ _ _ _ _ _ _ dJ11_init_2_62 M hf
  refine lv_aload_n hx hb dJ11_init_2_0 rfl (lv_at hl 0 rfl) ?_
  refine W.objInit hx hb C.1.2.2.2.1 (C.1.2.2.2.2 _ q649) (C.1.2.2.2.2 _ q180) (C.1.2.2.2.2 _ q181) rfl (hl.1.trans C.1.2.2.1.symm) rfl dJ11_init_2_1 (Nat.le_of_ble_eq_true rfl) (Nat.le_of_ble_eq_true rfl) ?_
  refine W.eq (g2 := F0 m 4 ls []) rfl ?_
  refine lv_aload_n hx hb dJ11_init_2_4 rfl (lv_at hl 1 rfl) ?_
  obtain ⟨g_5, hf⟩ := hf
  obtain ⟨cc_5, cs_5, h1_5, h2_5, hf⟩ := hf
  refine hu_ki M h1_5 h2_5 (hu_rV C M hl.1 (Nat.le_refl _) (Nat.le_refl _) h1_5 h2_5 g_5 rfl (As := []) (rest := []) (n := 0) (hk_J13_length l g a1 (υ := (υ.1, cc_5, cs_5)) hf) q915 q916 q917 q145 q918 rfl (by decide +kernel) rfl ⟨Nat.le_of_ble_eq_true rfl, Nat.le_of_ble_eq_true rfl⟩ rfl (Nat.le_of_ble_eq_true rfl) dJ11_init_2_5) (fun r5 u9 H locs hf M => ?_)
  generalize (u9.1, υ.2.1 - cc_5, υ.2.2 - cs_5) = τ5 at M hf
  generalize cells + cc_5 = cells at M ⊢
  generalize slots + cs_5 = slots at M ⊢
  refine lv_istore_n (lv' := [(2, .int r5), (0, .ref o), (1, .ref a1)]) hx hb dJ11_init_2_8 rfl hl (by decide) rfl (fun ls hl => ?_)
  refine lv_iload_n hx hb dJ11_init_2_9 rfl (lv_at hl 0 rfl) ?_
  refine lv_ldc hx hb C.1.2.2.2.1 (C.1.2.2.2.2 _ q1615) dJ11_init_2_10 ?_
  obtain ⟨hft, hff⟩ := hf
  refine lv_icmp_ge (tgt := 22) hx hb dJ11_init_2_12 (by decide) (fun c1 => ?_) (fun c1 => ?_)
  · have hf := hft c1
    refine lv_ldc hx hb C.1.2.2.2.1 (C.1.2.2.2.2 _ q697) dJ11_init_2_22 ?_
    exact B24 a1 2147483647 τ5 _ _ _ _ _ M (lv_sub hl [1, 2] rfl) hf
  · have hf := hff c1
    refine lv_iload_n hx hb dJ11_init_2_15 rfl (lv_at hl 0 rfl) ?_
    refine lv_bipush (v := 16) hx hb dJ11_init_2_16 rfl ?_
    refine lv_iadd hx hb dJ11_init_2_18 ?_
    refine lv_goto (tgt := 24) hx hb dJ11_init_2_19 (by decide) ?_
    exact B24 a1 (r5 + 16) τ5 _ _ _ _ _ M (lv_sub hl [1, 2] rfl) hf
def hw_J12_init_2 (g : hu_G) (o : Nat) (a1 : Nat) (υ : hu_S) (Q : hu_S → Prop) : Prop := hu_cv υ (hw_J11_init_2 g o a1) (fun τ2 => (Q τ2))
set_option maxHeartbeats 4000000 in
set_option maxRecDepth 100000 in
theorem hk_J12_init_2 (l : Launch) (g : hu_G) (o : Nat) (a1 : Nat) {υ : hu_S} {Q : hu_S → Prop} (hf : hw_J12_init_2 g o a1 υ Q) : Met l yJ12_init_2 (ws_ yJ12_init_2 cJ12_init_2 2 none) (hu_R 8 179 υ.2.1 υ.2.2) (va_Pc [.ref o, .ref a1] (hu_U g υ)) (va_Qv Q (hu_B g) (hg_A g)) υ.2.1 υ.2.2 (hg_A g) := by
  refine hu_Mv (LV := [(0, .ref o), (1, .ref a1)]) (by decide) rfl (Nat.le_of_ble_eq_true rfl) (fun p e s m args below meth c H locs cells slots ls QQ C M hin hl hret => ?_)
  have hx := C.1.1
  have hb := C.1.2.1
  unfold hw_J12_init_2 at hf
  refine lv_aload_n hx hb dJ12_init_2_0 rfl (lv_at hl 0 rfl) ?_
  refine lv_aload_n hx hb dJ12_init_2_1 rfl (lv_at hl 1 rfl) ?_
  obtain ⟨cc_2, cs_2, h1_2, h2_2, hf⟩ := hf
  refine hu_kv M h1_2 h2_2 (hu_rI C M hl.1 (Nat.le_refl _) (Nat.le_refl _) h1_2 h2_2 (As := [.ref a1]) (rest := []) (n := 1) (hk_J11_init_2 l g o a1 (υ := (υ.1, cc_2, cs_2)) hf) rfl q1612 q1613 q143 q1614 (by decide +kernel) rfl ⟨Nat.le_of_ble_eq_true rfl, Nat.le_of_ble_eq_true rfl⟩ rfl (Nat.le_of_ble_eq_true rfl) dJ12_init_2_2) (fun u9 H locs hf M => ?_)
  generalize (u9.1, υ.2.1 - cc_2, υ.2.2 - cs_2) = τ2 at M hf
  generalize cells + cc_2 = cells at M ⊢
  generalize slots + cs_2 = slots at M ⊢
  exact hret _ _ _ _ _ _ _ dJ12_init_2_5 M hf
def hw_J13_init_2 (g : hu_G) (o : Nat) (a1 : Nat) (υ : hu_S) (Q : hu_S → Prop) : Prop := hu_k g υ a1 2 ∧ (hu_c υ (hw_J11_getValue g a1) (fun r5 τ5 => (hu_k g τ5 a1 2 ∧ (hu_c τ5 (hw_J12_length g a1) (fun r10 τ10 => (hu_k g τ10 a1 2 ∧ (hu_c τ10 (hw_J11_isLatin1 g a1) (fun r16 τ16 => ((r16 = 0 → ((1 : Int32) = 0 → hu_pt τ16 o 3 1 (.int 1) (fun τ81 => (hu_c τ81 (hw_J3_copyOfRange g r5 0 (r10 <<< (1 &&& 31))) (fun r91 τ91 => (hu_pt τ91 o 3 0 (.ref r91) (fun τ94 => (Q τ94))))))) ∧ (¬ (1 : Int32) = 0 → hu_gi g τ16 a1 2 2 (fun x48 => ((x48 = 0 → hu_pt τ16 o 3 1 (.int 1) (fun τ81 => (hu_c τ81 (hw_J3_copyOfRange g r5 0 (r10 <<< (1 &&& 31))) (fun r91 τ91 => (hu_pt τ91 o 3 0 (.ref r91) (fun τ94 => (Q τ94))))))) ∧ (¬ x48 = 0 → False))))) ∧ (¬ r16 = 0 → hu_pt τ16 o 3 1 (.int 0) (fun τ24 => (hu_c τ24 (hw_J3_copyOfRange g r5 0 r10) (fun r32 τ32 => (hu_pt τ32 o 3 0 (.ref r32) (fun τ35 => (Q τ35))))))))))))))))
set_option maxHeartbeats 4000000 in
set_option maxRecDepth 100000 in
theorem hk_J13_init_2 (l : Launch) (g : hu_G) (o : Nat) (a1 : Nat) {υ : hu_S} {Q : hu_S → Prop} (hf : hw_J13_init_2 g o a1 υ Q) : Met l yJ13_init_2 (ws_ yJ13_init_2 cJ13_init_2 5 none) (hu_R 3 86 υ.2.1 υ.2.2) (va_Pc [.ref o, .ref a1, .null] (hu_U g υ)) (va_Qv Q (hu_B g) (hg_A g)) υ.2.1 υ.2.2 (hg_A g) := by
  refine hu_Mv (LV := [(0, .ref o), (1, .ref a1), (2, .null)]) (by decide) rfl (Nat.le_of_ble_eq_true rfl) (fun p e s m args below meth c H locs cells slots ls QQ C M hin hl hret => ?_)
  have hx := C.1.1
  have hb := C.1.2.1
  unfold hw_J13_init_2 at hf
  refine lv_aload_n hx hb dJ13_init_2_0 rfl (lv_at hl 0 rfl) ?_
  refine W.objInit hx hb C.1.2.2.2.1 (C.1.2.2.2.2 _ q777) (C.1.2.2.2.2 _ q180) (C.1.2.2.2.2 _ q181) rfl (hl.1.trans C.1.2.2.1.symm) rfl dJ13_init_2_1 (Nat.le_of_ble_eq_true rfl) (Nat.le_of_ble_eq_true rfl) ?_
  refine W.eq (g2 := F0 m 4 ls []) rfl ?_
  refine lv_aload_n hx hb dJ13_init_2_4 rfl (lv_at hl 1 rfl) ?_
  obtain ⟨g_5, hf⟩ := hf
  obtain ⟨cc_5, cs_5, h1_5, h2_5, hf⟩ := hf
  refine hu_kr M h1_5 h2_5 (hu_rU C M hl.1 (Nat.le_refl _) (Nat.le_refl _) h1_5 h2_5 g_5 rfl (As := []) (rest := []) (n := 0) (hk_J11_getValue l g a1 (υ := (υ.1, cc_5, cs_5)) hf) q778 q780 (va_Decl.of (C.1.2.2.2.2 _ q779) (C.1.2.2.2.2 _ q782)) q779 (C.1.2.2.2.2 _ q781) q143 q782 (by decide +kernel) rfl ⟨Nat.le_of_ble_eq_true rfl, Nat.le_of_ble_eq_true rfl⟩ rfl (Nat.le_of_ble_eq_true rfl) dJ13_init_2_5) (fun r5 u9 H locs hf M => ?_)
  generalize (u9.1, υ.2.1 - cc_5, υ.2.2 - cs_5) = τ5 at M hf
  generalize cells + cc_5 = cells at M ⊢
  generalize slots + cs_5 = slots at M ⊢
  refine lv_astore_n (lv' := [(3, .ref r5), (0, .ref o), (1, .ref a1), (2, .null)]) hx hb dJ13_init_2_8 rfl hl (by decide) rfl (fun ls hl => ?_)
  refine lv_aload_n hx hb dJ13_init_2_9 rfl (lv_at hl 2 rfl) ?_
  obtain ⟨g_10, hf⟩ := hf
  obtain ⟨cc_10, cs_10, h1_10, h2_10, hf⟩ := hf
  refine hu_ki M h1_10 h2_10 (hu_rU C M hl.1 (Nat.le_refl _) (Nat.le_refl _) h1_10 h2_10 g_10 rfl (As := []) (rest := []) (n := 0) (hk_J12_length l g a1 (υ := (τ5.1, cc_10, cs_10)) hf) q783 q785 (va_Decl.of (C.1.2.2.2.2 _ q784) (C.1.2.2.2.2 _ q790)) q787 (C.1.2.2.2.2 _ q786) q144 q788 (by decide +kernel) rfl ⟨Nat.le_of_ble_eq_true rfl, Nat.le_of_ble_eq_true rfl⟩ rfl (Nat.le_of_ble_eq_true rfl) dJ13_init_2_10) (fun r10 u9 H locs hf M => ?_)
  generalize (u9.1, τ5.2.1 - cc_10, τ5.2.2 - cs_10) = τ10 at M hf
  generalize cells + cc_10 = cells at M ⊢
  generalize slots + cs_10 = slots at M ⊢
  refine lv_istore (lv' := [(4, .int r10), (3, .ref r5), (0, .ref o), (1, .ref a1), (2, .null)]) hx hb dJ13_init_2_13 hl (by decide) rfl (fun ls hl => ?_)
  refine lv_aload_n hx hb dJ13_init_2_15 rfl (lv_at hl 3 rfl) ?_
  obtain ⟨g_16, hf⟩ := hf
  obtain ⟨cc_16, cs_16, h1_16, h2_16, hf⟩ := hf
  refine hu_ki M h1_16 h2_16 (hu_rU C M hl.1 (Nat.le_refl _) (Nat.le_refl _) h1_16 h2_16 g_16 rfl (As := []) (rest := []) (n := 0) (hk_J11_isLatin1 l g a1 (υ := (τ10.1, cc_16, cs_16)) hf) q791 q716 (va_Decl.of (C.1.2.2.2.2 _ q715) (C.1.2.2.2.2 _ q718)) q715 (C.1.2.2.2.2 _ q717) q143 q718 (by decide +kernel) rfl ⟨Nat.le_of_ble_eq_true rfl, Nat.le_of_ble_eq_true rfl⟩ rfl (Nat.le_of_ble_eq_true rfl) dJ13_init_2_16) (fun r16 u9 H locs hf M => ?_)
  generalize (u9.1, τ10.2.1 - cc_16, τ10.2.2 - cs_16) = τ16 at M hf
  generalize cells + cc_16 = cells at M ⊢
  generalize slots + cs_16 = slots at M ⊢
  obtain ⟨hft, hff⟩ := hf
  refine lv_if_eq (tgt := 41) hx hb dJ13_init_2_19 (by decide) (fun c1 => ?_) (fun c1 => ?_)
  · have hf := hft c1
    refine va_gets hx hb M.2.2.2.2.1.2.1 M.2.2.1 C.1.2.2.2.1 (C.1.2.2.2.2 _ q801) (fun _ h => h) dJ13_init_2_41 ?_
    obtain ⟨hft, hff⟩ := hf
    refine lv_if_eq (tgt := 79) hx hb dJ13_init_2_44 (by decide) (fun c1 => ?_) (fun c1 => ?_)
    · have hf := hft c1
      refine lv_aload_n hx hb dJ13_init_2_79 rfl (lv_at hl 2 rfl) ?_
      refine lv_iconst (v := 1) hx hb dJ13_init_2_80 rfl ?_
      obtain ⟨g_81, hf⟩ := hf
      refine hu_putF C M g_81 (CN := RJ13) (T := TJ13) (N := 4) rfl in_J13 tyJ13 tyJ13_ok nmJ13 (by decide) q816 rfl hin rfl (ty := .byte) (by decide +kernel) rfl rfl dJ13_init_2_81 (fun H locs M => ?_)
      generalize hu_put τ16 o 1 (.int 1) = τ81 at M hf
      refine lv_aload_n hx hb dJ13_init_2_84 rfl (lv_at hl 2 rfl) ?_
      refine lv_aload_n hx hb dJ13_init_2_85 rfl (lv_at hl 1 rfl) ?_
      refine lv_iconst (v := 0) hx hb dJ13_init_2_86 rfl ?_
      refine lv_iload hx hb dJ13_init_2_87 (lv_at hl 0 rfl) ?_
      refine lv_iconst (v := 1) hx hb dJ13_init_2_89 rfl ?_
      refine lv_ishl hx hb dJ13_init_2_90 ?_
      obtain ⟨cc_91, cs_91, h1_91, h2_91, hf⟩ := hf
      refine hu_kr M h1_91 h2_91 (hu_rS C M hl.1 (Nat.le_refl _) (Nat.le_refl _) h1_91 h2_91 (As := [.ref r5, .int 0, .int (r10 <<< (1 &&& 31))]) (rest := [.ref o]) (n := 3) (hk_J3_copyOfRange l g r5 0 (r10 <<< (1 &&& 31)) (υ := (τ81.1, cc_91, cs_91)) hf) q792 q793 q131 q794 (by decide +kernel) rfl ⟨Nat.le_of_ble_eq_true rfl, Nat.le_of_ble_eq_true rfl⟩ rfl (Nat.le_of_ble_eq_true rfl) dJ13_init_2_91) (fun r91 u9 H locs hf M => ?_)
      generalize (u9.1, τ81.2.1 - cc_91, τ81.2.2 - cs_91) = τ91 at M hf
      generalize cells + cc_91 = cells at M ⊢
      generalize slots + cs_91 = slots at M ⊢
      obtain ⟨g_94, hf⟩ := hf
      refine hu_putF C M g_94 (CN := RJ13) (T := TJ13) (N := 4) rfl in_J13 tyJ13 tyJ13_ok nmJ13 (by decide) q815 rfl hin rfl (ty := .array .byte) (by decide +kernel) rfl rfl dJ13_init_2_94 (fun H locs M => ?_)
      generalize hu_put τ91 o 0 (.ref r91) = τ94 at M hf
      exact hret _ _ _ _ _ _ _ dJ13_init_2_97 M hf
    · have hf := hff c1
      refine lv_aload_n hx hb dJ13_init_2_47 rfl (lv_at hl 3 rfl) ?_
      obtain ⟨x48, e_48, hf⟩ := hf
      refine hu_get C M e_48 (CN := RJ12) (T := TJ12) (N := 4) rfl in_J12 (by decide) q661 dJ13_init_2_48 ?_
      obtain ⟨hft, hff⟩ := hf
      refine lv_if_eq (tgt := 79) hx hb dJ13_init_2_51 (by decide) (fun c1 => ?_) (fun c1 => ?_)
      · have hf := hft c1
        refine lv_aload_n hx hb dJ13_init_2_79 rfl (lv_at hl 2 rfl) ?_
        refine lv_iconst (v := 1) hx hb dJ13_init_2_80 rfl ?_
        obtain ⟨g_81, hf⟩ := hf
        refine hu_putF C M g_81 (CN := RJ13) (T := TJ13) (N := 4) rfl in_J13 tyJ13 tyJ13_ok nmJ13 (by decide) q816 rfl hin rfl (ty := .byte) (by decide +kernel) rfl rfl dJ13_init_2_81 (fun H locs M => ?_)
        generalize hu_put τ16 o 1 (.int 1) = τ81 at M hf
        refine lv_aload_n hx hb dJ13_init_2_84 rfl (lv_at hl 2 rfl) ?_
        refine lv_aload_n hx hb dJ13_init_2_85 rfl (lv_at hl 1 rfl) ?_
        refine lv_iconst (v := 0) hx hb dJ13_init_2_86 rfl ?_
        refine lv_iload hx hb dJ13_init_2_87 (lv_at hl 0 rfl) ?_
        refine lv_iconst (v := 1) hx hb dJ13_init_2_89 rfl ?_
        refine lv_ishl hx hb dJ13_init_2_90 ?_
        obtain ⟨cc_91, cs_91, h1_91, h2_91, hf⟩ := hf
        refine hu_kr M h1_91 h2_91 (hu_rS C M hl.1 (Nat.le_refl _) (Nat.le_refl _) h1_91 h2_91 (As := [.ref r5, .int 0, .int (r10 <<< (1 &&& 31))]) (rest := [.ref o]) (n := 3) (hk_J3_copyOfRange l g r5 0 (r10 <<< (1 &&& 31)) (υ := (τ81.1, cc_91, cs_91)) hf) q792 q793 q131 q794 (by decide +kernel) rfl ⟨Nat.le_of_ble_eq_true rfl, Nat.le_of_ble_eq_true rfl⟩ rfl (Nat.le_of_ble_eq_true rfl) dJ13_init_2_91) (fun r91 u9 H locs hf M => ?_)
        generalize (u9.1, τ81.2.1 - cc_91, τ81.2.2 - cs_91) = τ91 at M hf
        generalize cells + cc_91 = cells at M ⊢
        generalize slots + cs_91 = slots at M ⊢
        obtain ⟨g_94, hf⟩ := hf
        refine hu_putF C M g_94 (CN := RJ13) (T := TJ13) (N := 4) rfl in_J13 tyJ13 tyJ13_ok nmJ13 (by decide) q815 rfl hin rfl (ty := .array .byte) (by decide +kernel) rfl rfl dJ13_init_2_94 (fun H locs M => ?_)
        generalize hu_put τ91 o 0 (.ref r91) = τ94 at M hf
        exact hret _ _ _ _ _ _ _ dJ13_init_2_97 M hf
      · have hf := hff c1
        refine lv_aload_n hx hb dJ13_init_2_54 rfl (lv_at hl 2 rfl) ?_
        refine lv_aload_n hx hb dJ13_init_2_55 rfl (lv_at hl 1 rfl) ?_
        refine lv_iconst (v := 0) hx hb dJ13_init_2_56 rfl ?_
        refine lv_iload hx hb dJ13_init_2_57 (lv_at hl 0 rfl) ?_
        exact hf.elim
  · have hf := hff c1
    refine lv_aload_n hx hb dJ13_init_2_22 rfl (lv_at hl 2 rfl) ?_
    refine lv_iconst (v := 0) hx hb dJ13_init_2_23 rfl ?_
    obtain ⟨g_24, hf⟩ := hf
    refine hu_putF C M g_24 (CN := RJ13) (T := TJ13) (N := 4) rfl in_J13 tyJ13 tyJ13_ok nmJ13 (by decide) q816 rfl hin rfl (ty := .byte) (by decide +kernel) rfl rfl dJ13_init_2_24 (fun H locs M => ?_)
    generalize hu_put τ16 o 1 (.int 0) = τ24 at M hf
    refine lv_aload_n hx hb dJ13_init_2_27 rfl (lv_at hl 2 rfl) ?_
    refine lv_aload_n hx hb dJ13_init_2_28 rfl (lv_at hl 1 rfl) ?_
    refine lv_iconst (v := 0) hx hb dJ13_init_2_29 rfl ?_
    refine lv_iload hx hb dJ13_init_2_30 (lv_at hl 0 rfl) ?_
    obtain ⟨cc_32, cs_32, h1_32, h2_32, hf⟩ := hf
    refine hu_kr M h1_32 h2_32 (hu_rS C M hl.1 (Nat.le_refl _) (Nat.le_refl _) h1_32 h2_32 (As := [.ref r5, .int 0, .int r10]) (rest := [.ref o]) (n := 3) (hk_J3_copyOfRange l g r5 0 r10 (υ := (τ24.1, cc_32, cs_32)) hf) q792 q793 q131 q794 (by decide +kernel) rfl ⟨Nat.le_of_ble_eq_true rfl, Nat.le_of_ble_eq_true rfl⟩ rfl (Nat.le_of_ble_eq_true rfl) dJ13_init_2_32) (fun r32 u9 H locs hf M => ?_)
    generalize (u9.1, τ24.2.1 - cc_32, τ24.2.2 - cs_32) = τ32 at M hf
    generalize cells + cc_32 = cells at M ⊢
    generalize slots + cs_32 = slots at M ⊢
    obtain ⟨g_35, hf⟩ := hf
    refine hu_putF C M g_35 (CN := RJ13) (T := TJ13) (N := 4) rfl in_J13 tyJ13 tyJ13_ok nmJ13 (by decide) q815 rfl hin rfl (ty := .array .byte) (by decide +kernel) rfl rfl dJ13_init_2_35 (fun H locs M => ?_)
    generalize hu_put τ32 o 0 (.ref r32) = τ35 at M hf
    refine lv_goto (tgt := 97) hx hb dJ13_init_2_38 (by decide) ?_
    exact hret _ _ _ _ _ _ _ dJ13_init_2_97 M hf
def hw_J13_init (g : hu_G) (o : Nat) (a1 : Nat) (υ : hu_S) (Q : hu_S → Prop) : Prop := hu_cv υ (hw_J13_init_2 g o a1) (fun τ3 => (Q τ3))
set_option maxHeartbeats 4000000 in
set_option maxRecDepth 100000 in
theorem hk_J13_init (l : Launch) (g : hu_G) (o : Nat) (a1 : Nat) {υ : hu_S} {Q : hu_S → Prop} (hf : hw_J13_init g o a1 υ Q) : Met l yJ13_init (ws_ yJ13_init cJ13_init 2 none) (hu_R 4 110 υ.2.1 υ.2.2) (va_Pc [.ref o, .ref a1] (hu_U g υ)) (va_Qv Q (hu_B g) (hg_A g)) υ.2.1 υ.2.2 (hg_A g) := by
  refine hu_Mv (LV := [(0, .ref o), (1, .ref a1)]) (by decide) rfl (Nat.le_of_ble_eq_true rfl) (fun p e s m args below meth c H locs cells slots ls QQ C M hin hl hret => ?_)
  have hx := C.1.1
  have hb := C.1.2.1
  unfold hw_J13_init at hf
  refine lv_aload_n hx hb dJ13_init_0 rfl (lv_at hl 0 rfl) ?_
  refine lv_aload_n hx hb dJ13_init_1 rfl (lv_at hl 1 rfl) ?_
  refine lv_null hx hb dJ13_init_2 ?_
  obtain ⟨cc_3, cs_3, h1_3, h2_3, hf⟩ := hf
  refine hu_kv M h1_3 h2_3 (hu_rI C M hl.1 (Nat.le_refl _) (Nat.le_refl _) h1_3 h2_3 (As := [.ref a1, .null]) (rest := []) (n := 2) (hk_J13_init_2 l g o a1 (υ := (υ.1, cc_3, cs_3)) hf) rfl q774 q775 q145 q776 (by decide +kernel) rfl ⟨Nat.le_of_ble_eq_true rfl, Nat.le_of_ble_eq_true rfl⟩ rfl (Nat.le_of_ble_eq_true rfl) dJ13_init_3) (fun u9 H locs hf M => ?_)
  generalize (u9.1, υ.2.1 - cc_3, υ.2.2 - cs_3) = τ3 at M hf
  generalize cells + cc_3 = cells at M ⊢
  generalize slots + cs_3 = slots at M ⊢
  exact hret _ _ _ _ _ _ _ dJ13_init_6 M hf
def hw_J12_toString (g : hu_G) (o : Nat) (υ : hu_S) (Q : Nat → hu_S → Prop) : Prop := hu_mk g υ (.inr (3, [.null, .int 0, .int 0, .int 0])) 4 (fun q0 τ0 => (hu_cv τ0 (hw_J13_init g q0 o) (fun τ5 => (Q q0 τ5))))
set_option maxHeartbeats 4000000 in
set_option maxRecDepth 100000 in
theorem hk_J12_toString (l : Launch) (g : hu_G) (o : Nat) {υ : hu_S} {Q : Nat → hu_S → Prop} (hf : hw_J12_toString g o υ Q) : Met l yJ12_toString (ws_ yJ12_toString cJ12_toString 1 (some (.object "java/lang/String"))) (hu_R 5 131 υ.2.1 υ.2.2) (va_Pc [.ref o] (hu_U g υ)) (va_Qr (fun _ : hu_S => True) (fun u r t => Q r u ∧ hu_V g u t.heap) (hg_A g)) υ.2.1 υ.2.2 (hg_A g) := by
  refine hu_Mr (Or.inl ⟨_, rfl⟩) (LV := [(0, .ref o)]) (by decide) rfl (Nat.le_of_ble_eq_true rfl) (fun p e s m args below meth c H locs cells slots ls QQ C M hin hl hret => ?_)
  have hx := C.1.1
  have hb := C.1.2.1
  unfold hw_J12_toString at hf
  obtain ⟨m1_0, m2_0, hf⟩ := hf
  refine hu_newO C M (Nat.le_refl _) (Nat.le_refl _) (CN := RJ13) (T := TJ13) (N := 4) (ci := 3) (fs := [.null, .int 0, .int 0, .int 0]) in_J13 tyJ13 tyJ13_ok q769 q770 q145 rfl (fun j hj => by rcases (show j = 0 ∨ j = 1 ∨ j = 2 ∨ j = 3 by omega) with rfl | rfl | rfl | rfl <;> rfl) m1_0 m2_0 dJ12_toString_0 (fun q0 H f_0 M => ?_)
  have hf := hf q0 f_0
  generalize hu_new _ _ _ _ = τ0 at M hf
  generalize cells + 1 = cells at M ⊢
  generalize slots + 4 = slots at M ⊢
  refine lv_dup hx hb dJ12_toString_3 rfl ?_
  refine lv_aload_n hx hb dJ12_toString_4 rfl (lv_at hl 0 rfl) ?_
  obtain ⟨cc_5, cs_5, h1_5, h2_5, hf⟩ := hf
  refine hu_kv M h1_5 h2_5 (hu_rI C M hl.1 (Nat.le_refl _) (Nat.le_refl _) h1_5 h2_5 (As := [.ref o]) (rest := [.ref q0]) (n := 1) (hk_J13_init l g q0 o (υ := (τ0.1, cc_5, cs_5)) hf) rfl q771 q772 q145 q773 (by decide +kernel) rfl ⟨Nat.le_of_ble_eq_true rfl, Nat.le_of_ble_eq_true rfl⟩ rfl (Nat.le_of_ble_eq_true rfl) dJ12_toString_5) (fun u9 H locs hf M => ?_)
  generalize (u9.1, τ0.2.1 - cc_5, τ0.2.2 - cs_5) = τ5 at M hf
  generalize cells + cc_5 = cells at M ⊢
  generalize slots + cs_5 = slots at M ⊢
  exact hret _ _ _ _ _ _ _ _ dJ12_toString_8 M hf
