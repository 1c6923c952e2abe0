set_option maxRecDepth 100000
def hw_J5_checkIndex (a0 : Int32) (a1 : Int32) (_ : Unit) (Q : Int32 → Unit → Prop) : Prop := (a0 < 0 → False) ∧ (¬ a0 < 0 → (a0 < a1 → Q a0 ()) ∧ (¬ a0 < a1 → False))
set_option maxHeartbeats 4000000 in
set_option maxRecDepth 100000 in
theorem hk_J5_checkIndex (l : Launch) (D : va_G) (dA : Nat → ClassId) (a0 : Int32) (a1 : Int32) {Q : Int32 → Unit → Prop} (hf : hw_J5_checkIndex a0 a1 () Q) : Met l yJ5_checkIndex (ws_ yJ5_checkIndex cJ5_checkIndex 3 (some .int)) (hb_R 0 0) (va_Pc [.int a0, .int a1, .null] (hb_K D dA)) (vp_Si (fun r => Q r ())) 0 0 (fun _ => False) := by
  refine hp_Mi (LV := [(0, .int a0), (1, .int a1), (2, .null)]) (fun _ h => h) (by decide) rfl (Nat.le_of_ble_eq_true rfl) (fun p e s m args below meth c ls QQ C hU hl hret => ?_)
  have hx := C.1.1
  have hb := C.1.2.1
  refine lv_iload_n hx hb dJ5_checkIndex_0 rfl (lv_at hl 0 rfl) ?_
  obtain ⟨hft, hff⟩ := hf
  refine lv_if_lt (tgt := 9) hx hb dJ5_checkIndex_1 (by decide) (fun c1 => ?_) (fun c1 => ?_)
  · have hf := hft c1
    exact hf.elim
  · have hf := hff c1
    refine lv_iload_n hx hb dJ5_checkIndex_4 rfl (lv_at hl 0 rfl) ?_
    refine lv_iload_n hx hb dJ5_checkIndex_5 rfl (lv_at hl 1 rfl) ?_
    obtain ⟨hft, hff⟩ := hf
    refine lv_icmp_lt (tgt := 16) hx hb dJ5_checkIndex_6 (by decide) (fun c1 => ?_) (fun c1 => ?_)
    · have hf := hft c1
      refine lv_iload_n hx hb dJ5_checkIndex_16 rfl (lv_at hl 0 rfl) ?_
      exact hret _ _ _ dJ5_checkIndex_17 hf
    · have hf := hff c1
      exact hf.elim
def hw_J4_checkIndex (a0 : Int32) (a1 : Int32) (_ : Unit) (Q : Int32 → Unit → Prop) : Prop := hw_J5_checkIndex a0 a1 () (fun r_3 _ => (Q r_3 ()))
set_option maxHeartbeats 4000000 in
set_option maxRecDepth 100000 in
theorem hk_J4_checkIndex (l : Launch) (D : va_G) (dA : Nat → ClassId) (a0 : Int32) (a1 : Int32) {Q : Int32 → Unit → Prop} (hf : hw_J4_checkIndex a0 a1 () Q) : Met l yJ4_checkIndex (ws_ yJ4_checkIndex cJ4_checkIndex 2 (some .int)) (hb_R 1 22) (va_Pc [.int a0, .int a1] (hb_K D dA)) (vp_Si (fun r => Q r ())) 0 0 (fun _ => False) := by
  refine hp_Mi (LV := [(0, .int a0), (1, .int a1)]) (fun _ h => h) (by decide) rfl (Nat.le_of_ble_eq_true rfl) (fun p e s m args below meth c ls QQ C hU hl hret => ?_)
  have hx := C.1.1
  have hb := C.1.2.1
  refine lv_iload_n hx hb dJ4_checkIndex_0 rfl (lv_at hl 0 rfl) ?_
  refine lv_iload_n hx hb dJ4_checkIndex_1 rfl (lv_at hl 1 rfl) ?_
  refine lv_null hx hb dJ4_checkIndex_2 ?_
  refine hp_cs C hl.1 (As := [.int a0, .int a1, .null]) (rest := []) (hk_J5_checkIndex l D dA a0 a1 hf) (n := 3) q334 q335 q133 q336 (by decide +kernel) rfl ⟨Nat.le_of_ble_eq_true rfl, Nat.le_of_ble_eq_true rfl⟩ ⟨Nat.zero_le _, Nat.zero_le _⟩ rfl (Nat.le_of_ble_eq_true rfl) dJ4_checkIndex_3 (fun r_3 hf => ?_)
  exact hret _ _ _ dJ4_checkIndex_6 hf
def hw_J18_bitCount (a0 : Int32) (_ : Unit) (Q : Int32 → Unit → Prop) : Prop := Q ((((((((a0 - (((a0.toUInt32 >>> ((1 : Int32).toUInt32 &&& Int32.toUInt32 31)).toInt32) &&& 1431655765)) &&& 858993459) + ((((a0 - (((a0.toUInt32 >>> ((1 : Int32).toUInt32 &&& Int32.toUInt32 31)).toInt32) &&& 1431655765)).toUInt32 >>> ((2 : Int32).toUInt32 &&& Int32.toUInt32 31)).toInt32) &&& 858993459)) + (((((a0 - (((a0.toUInt32 >>> ((1 : Int32).toUInt32 &&& Int32.toUInt32 31)).toInt32) &&& 1431655765)) &&& 858993459) + ((((a0 - (((a0.toUInt32 >>> ((1 : Int32).toUInt32 &&& Int32.toUInt32 31)).toInt32) &&& 1431655765)).toUInt32 >>> ((2 : Int32).toUInt32 &&& Int32.toUInt32 31)).toInt32) &&& 858993459)).toUInt32 >>> ((4 : Int32).toUInt32 &&& Int32.toUInt32 31)).toInt32)) &&& 252645135) + (((((((a0 - (((a0.toUInt32 >>> ((1 : Int32).toUInt32 &&& Int32.toUInt32 31)).toInt32) &&& 1431655765)) &&& 858993459) + ((((a0 - (((a0.toUInt32 >>> ((1 : Int32).toUInt32 &&& Int32.toUInt32 31)).toInt32) &&& 1431655765)).toUInt32 >>> ((2 : Int32).toUInt32 &&& Int32.toUInt32 31)).toInt32) &&& 858993459)) + (((((a0 - (((a0.toUInt32 >>> ((1 : Int32).toUInt32 &&& Int32.toUInt32 31)).toInt32) &&& 1431655765)) &&& 858993459) + ((((a0 - (((a0.toUInt32 >>> ((1 : Int32).toUInt32 &&& Int32.toUInt32 31)).toInt32) &&& 1431655765)).toUInt32 >>> ((2 : Int32).toUInt32 &&& Int32.toUInt32 31)).toInt32) &&& 858993459)).toUInt32 >>> ((4 : Int32).toUInt32 &&& Int32.toUInt32 31)).toInt32)) &&& 252645135).toUInt32 >>> ((8 : Int32).toUInt32 &&& Int32.toUInt32 31)).toInt32)) + ((((((((a0 - (((a0.toUInt32 >>> ((1 : Int32).toUInt32 &&& Int32.toUInt32 31)).toInt32) &&& 1431655765)) &&& 858993459) + ((((a0 - (((a0.toUInt32 >>> ((1 : Int32).toUInt32 &&& Int32.toUInt32 31)).toInt32) &&& 1431655765)).toUInt32 >>> ((2 : Int32).toUInt32 &&& Int32.toUInt32 31)).toInt32) &&& 858993459)) + (((((a0 - (((a0.toUInt32 >>> ((1 : Int32).toUInt32 &&& Int32.toUInt32 31)).toInt32) &&& 1431655765)) &&& 858993459) + ((((a0 - (((a0.toUInt32 >>> ((1 : Int32).toUInt32 &&& Int32.toUInt32 31)).toInt32) &&& 1431655765)).toUInt32 >>> ((2 : Int32).toUInt32 &&& Int32.toUInt32 31)).toInt32) &&& 858993459)).toUInt32 >>> ((4 : Int32).toUInt32 &&& Int32.toUInt32 31)).toInt32)) &&& 252645135) + (((((((a0 - (((a0.toUInt32 >>> ((1 : Int32).toUInt32 &&& Int32.toUInt32 31)).toInt32) &&& 1431655765)) &&& 858993459) + ((((a0 - (((a0.toUInt32 >>> ((1 : Int32).toUInt32 &&& Int32.toUInt32 31)).toInt32) &&& 1431655765)).toUInt32 >>> ((2 : Int32).toUInt32 &&& Int32.toUInt32 31)).toInt32) &&& 858993459)) + (((((a0 - (((a0.toUInt32 >>> ((1 : Int32).toUInt32 &&& Int32.toUInt32 31)).toInt32) &&& 1431655765)) &&& 858993459) + ((((a0 - (((a0.toUInt32 >>> ((1 : Int32).toUInt32 &&& Int32.toUInt32 31)).toInt32) &&& 1431655765)).toUInt32 >>> ((2 : Int32).toUInt32 &&& Int32.toUInt32 31)).toInt32) &&& 858993459)).toUInt32 >>> ((4 : Int32).toUInt32 &&& Int32.toUInt32 31)).toInt32)) &&& 252645135).toUInt32 >>> ((8 : Int32).toUInt32 &&& Int32.toUInt32 31)).toInt32)).toUInt32 >>> ((16 : Int32).toUInt32 &&& Int32.toUInt32 31)).toInt32)) &&& 63) ()
set_option maxHeartbeats 4000000 in
set_option maxRecDepth 100000 in
theorem hk_J18_bitCount (l : Launch) (D : va_G) (dA : Nat → ClassId) (a0 : Int32) {Q : Int32 → Unit → Prop} (hf : hw_J18_bitCount a0 () Q) : Met l yJ18_bitCount (ws_ yJ18_bitCount cJ18_bitCount 1 (some .int)) (hb_R 0 0) (va_Pc [.int a0] (hb_K D dA)) (vp_Si (fun r => Q r ())) 0 0 (fun _ => False) := by
  refine hp_Mi (LV := [(0, .int a0)]) (fun _ h => h) (by decide) rfl (Nat.le_of_ble_eq_true rfl) (fun p e s m args below meth c ls QQ C hU hl hret => ?_)
  have hx := C.1.1
  have hb := C.1.2.1
  refine lv_iload_n hx hb dJ18_bitCount_0 rfl (lv_at hl 0 rfl) ?_
  refine lv_iload_n hx hb dJ18_bitCount_1 rfl (lv_at hl 0 rfl) ?_
  refine lv_iconst (v := 1) hx hb dJ18_bitCount_2 rfl ?_
  refine lv_iushr hx hb dJ18_bitCount_3 rfl ?_
  refine lv_ldcw hx hb C.1.2.2.2.1 (C.1.2.2.2.2 _ q1110) dJ18_bitCount_4 ?_
  refine lv_iand hx hb dJ18_bitCount_7 ?_
  refine lv_isub hx hb dJ18_bitCount_8 ?_
  refine lv_istore_n (lv' := [(0, .int (a0 - (((a0.toUInt32 >>> ((1 : Int32).toUInt32 &&& Int32.toUInt32 31)).toInt32) &&& 1431655765)))]) hx hb dJ18_bitCount_9 rfl hl (by decide) rfl (fun ls hl => ?_)
  refine lv_iload_n hx hb dJ18_bitCount_10 rfl (lv_at hl 0 rfl) ?_
  refine lv_ldcw hx hb C.1.2.2.2.1 (C.1.2.2.2.2 _ q1111) dJ18_bitCount_11 ?_
  refine lv_iand hx hb dJ18_bitCount_14 ?_
  refine lv_iload_n hx hb dJ18_bitCount_15 rfl (lv_at hl 0 rfl) ?_
  refine lv_iconst (v := 2) hx hb dJ18_bitCount_16 rfl ?_
  refine lv_iushr hx hb dJ18_bitCount_17 rfl ?_
  refine lv_ldcw hx hb C.1.2.2.2.1 (C.1.2.2.2.2 _ q1111) dJ18_bitCount_18 ?_
  refine lv_iand hx hb dJ18_bitCount_21 ?_
  refine lv_iadd hx hb dJ18_bitCount_22 ?_
  refine lv_istore_n (lv' := [(0, .int (((a0 - (((a0.toUInt32 >>> ((1 : Int32).toUInt32 &&& Int32.toUInt32 31)).toInt32) &&& 1431655765)) &&& 858993459) + ((((a0 - (((a0.toUInt32 >>> ((1 : Int32).toUInt32 &&& Int32.toUInt32 31)).toInt32) &&& 1431655765)).toUInt32 >>> ((2 : Int32).toUInt32 &&& Int32.toUInt32 31)).toInt32) &&& 858993459)))]) hx hb dJ18_bitCount_23 rfl hl (by decide) rfl (fun ls hl => ?_)
  refine lv_iload_n hx hb dJ18_bitCount_24 rfl (lv_at hl 0 rfl) ?_
  refine lv_iload_n hx hb dJ18_bitCount_25 rfl (lv_at hl 0 rfl) ?_
  refine lv_iconst (v := 4) hx hb dJ18_bitCount_26 rfl ?_
  refine lv_iushr hx hb dJ18_bitCount_27 rfl ?_
  refine lv_iadd hx hb dJ18_bitCount_28 ?_
  refine lv_ldcw hx hb C.1.2.2.2.1 (C.1.2.2.2.2 _ q1112) dJ18_bitCount_29 ?_
  refine lv_iand hx hb dJ18_bitCount_32 ?_
  refine lv_istore_n (lv' := [(0, .int (((((a0 - (((a0.toUInt32 >>> ((1 : Int32).toUInt32 &&& Int32.toUInt32 31)).toInt32) &&& 1431655765)) &&& 858993459) + ((((a0 - (((a0.toUInt32 >>> ((1 : Int32).toUInt32 &&& Int32.toUInt32 31)).toInt32) &&& 1431655765)).toUInt32 >>> ((2 : Int32).toUInt32 &&& Int32.toUInt32 31)).toInt32) &&& 858993459)) + (((((a0 - (((a0.toUInt32 >>> ((1 : Int32).toUInt32 &&& Int32.toUInt32 31)).toInt32) &&& 1431655765)) &&& 858993459) + ((((a0 - (((a0.toUInt32 >>> ((1 : Int32).toUInt32 &&& Int32.toUInt32 31)).toInt32) &&& 1431655765)).toUInt32 >>> ((2 : Int32).toUInt32 &&& Int32.toUInt32 31)).toInt32) &&& 858993459)).toUInt32 >>> ((4 : Int32).toUInt32 &&& Int32.toUInt32 31)).toInt32)) &&& 252645135))]) hx hb dJ18_bitCount_33 rfl hl (by decide) rfl (fun ls hl => ?_)
  refine lv_iload_n hx hb dJ18_bitCount_34 rfl (lv_at hl 0 rfl) ?_
  refine lv_iload_n hx hb dJ18_bitCount_35 rfl (lv_at hl 0 rfl) ?_
  refine lv_bipush (v := 8) hx hb dJ18_bitCount_36 rfl ?_
  refine lv_iushr hx hb dJ18_bitCount_38 rfl ?_
  refine lv_iadd hx hb dJ18_bitCount_39 ?_
  refine lv_istore_n (lv' := [(0, .int ((((((a0 - (((a0.toUInt32 >>> ((1 : Int32).toUInt32 &&& Int32.toUInt32 31)).toInt32) &&& 1431655765)) &&& 858993459) + ((((a0 - (((a0.toUInt32 >>> ((1 : Int32).toUInt32 &&& Int32.toUInt32 31)).toInt32) &&& 1431655765)).toUInt32 >>> ((2 : Int32).toUInt32 &&& Int32.toUInt32 31)).toInt32) &&& 858993459)) + (((((a0 - (((a0.toUInt32 >>> ((1 : Int32).toUInt32 &&& Int32.toUInt32 31)).toInt32) &&& 1431655765)) &&& 858993459) + ((((a0 - (((a0.toUInt32 >>> ((1 : Int32).toUInt32 &&& Int32.toUInt32 31)).toInt32) &&& 1431655765)).toUInt32 >>> ((2 : Int32).toUInt32 &&& Int32.toUInt32 31)).toInt32) &&& 858993459)).toUInt32 >>> ((4 : Int32).toUInt32 &&& Int32.toUInt32 31)).toInt32)) &&& 252645135) + (((((((a0 - (((a0.toUInt32 >>> ((1 : Int32).toUInt32 &&& Int32.toUInt32 31)).toInt32) &&& 1431655765)) &&& 858993459) + ((((a0 - (((a0.toUInt32 >>> ((1 : Int32).toUInt32 &&& Int32.toUInt32 31)).toInt32) &&& 1431655765)).toUInt32 >>> ((2 : Int32).toUInt32 &&& Int32.toUInt32 31)).toInt32) &&& 858993459)) + (((((a0 - (((a0.toUInt32 >>> ((1 : Int32).toUInt32 &&& Int32.toUInt32 31)).toInt32) &&& 1431655765)) &&& 858993459) + ((((a0 - (((a0.toUInt32 >>> ((1 : Int32).toUInt32 &&& Int32.toUInt32 31)).toInt32) &&& 1431655765)).toUInt32 >>> ((2 : Int32).toUInt32 &&& Int32.toUInt32 31)).toInt32) &&& 858993459)).toUInt32 >>> ((4 : Int32).toUInt32 &&& Int32.toUInt32 31)).toInt32)) &&& 252645135).toUInt32 >>> ((8 : Int32).toUInt32 &&& Int32.toUInt32 31)).toInt32)))]) hx hb dJ18_bitCount_40 rfl hl (by decide) rfl (fun ls hl => ?_)
  refine lv_iload_n hx hb dJ18_bitCount_41 rfl (lv_at hl 0 rfl) ?_
  refine lv_iload_n hx hb dJ18_bitCount_42 rfl (lv_at hl 0 rfl) ?_
  refine lv_bipush (v := 16) hx hb dJ18_bitCount_43 rfl ?_
  refine lv_iushr hx hb dJ18_bitCount_45 rfl ?_
  refine lv_iadd hx hb dJ18_bitCount_46 ?_
  refine lv_istore_n (lv' := [(0, .int (((((((a0 - (((a0.toUInt32 >>> ((1 : Int32).toUInt32 &&& Int32.toUInt32 31)).toInt32) &&& 1431655765)) &&& 858993459) + ((((a0 - (((a0.toUInt32 >>> ((1 : Int32).toUInt32 &&& Int32.toUInt32 31)).toInt32) &&& 1431655765)).toUInt32 >>> ((2 : Int32).toUInt32 &&& Int32.toUInt32 31)).toInt32) &&& 858993459)) + (((((a0 - (((a0.toUInt32 >>> ((1 : Int32).toUInt32 &&& Int32.toUInt32 31)).toInt32) &&& 1431655765)) &&& 858993459) + ((((a0 - (((a0.toUInt32 >>> ((1 : Int32).toUInt32 &&& Int32.toUInt32 31)).toInt32) &&& 1431655765)).toUInt32 >>> ((2 : Int32).toUInt32 &&& Int32.toUInt32 31)).toInt32) &&& 858993459)).toUInt32 >>> ((4 : Int32).toUInt32 &&& Int32.toUInt32 31)).toInt32)) &&& 252645135) + (((((((a0 - (((a0.toUInt32 >>> ((1 : Int32).toUInt32 &&& Int32.toUInt32 31)).toInt32) &&& 1431655765)) &&& 858993459) + ((((a0 - (((a0.toUInt32 >>> ((1 : Int32).toUInt32 &&& Int32.toUInt32 31)).toInt32) &&& 1431655765)).toUInt32 >>> ((2 : Int32).toUInt32 &&& Int32.toUInt32 31)).toInt32) &&& 858993459)) + (((((a0 - (((a0.toUInt32 >>> ((1 : Int32).toUInt32 &&& Int32.toUInt32 31)).toInt32) &&& 1431655765)) &&& 858993459) + ((((a0 - (((a0.toUInt32 >>> ((1 : Int32).toUInt32 &&& Int32.toUInt32 31)).toInt32) &&& 1431655765)).toUInt32 >>> ((2 : Int32).toUInt32 &&& Int32.toUInt32 31)).toInt32) &&& 858993459)).toUInt32 >>> ((4 : Int32).toUInt32 &&& Int32.toUInt32 31)).toInt32)) &&& 252645135).toUInt32 >>> ((8 : Int32).toUInt32 &&& Int32.toUInt32 31)).toInt32)) + ((((((((a0 - (((a0.toUInt32 >>> ((1 : Int32).toUInt32 &&& Int32.toUInt32 31)).toInt32) &&& 1431655765)) &&& 858993459) + ((((a0 - (((a0.toUInt32 >>> ((1 : Int32).toUInt32 &&& Int32.toUInt32 31)).toInt32) &&& 1431655765)).toUInt32 >>> ((2 : Int32).toUInt32 &&& Int32.toUInt32 31)).toInt32) &&& 858993459)) + (((((a0 - (((a0.toUInt32 >>> ((1 : Int32).toUInt32 &&& Int32.toUInt32 31)).toInt32) &&& 1431655765)) &&& 858993459) + ((((a0 - (((a0.toUInt32 >>> ((1 : Int32).toUInt32 &&& Int32.toUInt32 31)).toInt32) &&& 1431655765)).toUInt32 >>> ((2 : Int32).toUInt32 &&& Int32.toUInt32 31)).toInt32) &&& 858993459)).toUInt32 >>> ((4 : Int32).toUInt32 &&& Int32.toUInt32 31)).toInt32)) &&& 252645135) + (((((((a0 - (((a0.toUInt32 >>> ((1 : Int32).toUInt32 &&& Int32.toUInt32 31)).toInt32) &&& 1431655765)) &&& 858993459) + ((((a0 - (((a0.toUInt32 >>> ((1 : Int32).toUInt32 &&& Int32.toUInt32 31)).toInt32) &&& 1431655765)).toUInt32 >>> ((2 : Int32).toUInt32 &&& Int32.toUInt32 31)).toInt32) &&& 858993459)) + (((((a0 - (((a0.toUInt32 >>> ((1 : Int32).toUInt32 &&& Int32.toUInt32 31)).toInt32) &&& 1431655765)) &&& 858993459) + ((((a0 - (((a0.toUInt32 >>> ((1 : Int32).toUInt32 &&& Int32.toUInt32 31)).toInt32) &&& 1431655765)).toUInt32 >>> ((2 : Int32).toUInt32 &&& Int32.toUInt32 31)).toInt32) &&& 858993459)).toUInt32 >>> ((4 : Int32).toUInt32 &&& Int32.toUInt32 31)).toInt32)) &&& 252645135).toUInt32 >>> ((8 : Int32).toUInt32 &&& Int32.toUInt32 31)).toInt32)).toUInt32 >>> ((16 : Int32).toUInt32 &&& Int32.toUInt32 31)).toInt32)))]) hx hb dJ18_bitCount_47 rfl hl (by decide) rfl (fun ls hl => ?_)
  refine lv_iload_n hx hb dJ18_bitCount_48 rfl (lv_at hl 0 rfl) ?_
  refine lv_bipush (v := 63) hx hb dJ18_bitCount_49 rfl ?_
  refine lv_iand hx hb dJ18_bitCount_51 ?_
  exact hret _ _ _ dJ18_bitCount_52 hf
def hw_X1_isIn (a0 : Int32) (a1 : Int32) (a2 : Int32) (_ : Unit) (Q : Int32 → Unit → Prop) : Prop := (a0 < a1 → Q 0 ()) ∧ (¬ a0 < a1 → (a2 < a0 → Q 0 ()) ∧ (¬ a2 < a0 → Q 1 ()))
set_option maxHeartbeats 4000000 in
set_option maxRecDepth 100000 in
theorem hk_X1_isIn (l : Launch) (D : va_G) (dA : Nat → ClassId) (a0 : Int32) (a1 : Int32) (a2 : Int32) {Q : Int32 → Unit → Prop} (hf : hw_X1_isIn a0 a1 a2 () Q) : Met l yX1_isIn (ws_ yX1_isIn cX1_isIn 3 (some .boolean)) (hb_R 0 0) (va_Pc [.int a0, .int a1, .int a2] (hb_K D dA)) (vp_Si (fun r => Q r ())) 0 0 (fun _ => False) := by
  refine hp_Mz (LV := [(0, .int a0), (1, .int a1), (2, .int a2)]) (fun _ h => h) (by decide) rfl (Nat.le_of_ble_eq_true rfl) (fun p e s m args below meth c ls QQ C hU hl hret => ?_)
  have hx := C.1.1
  have hb := C.1.2.1
  refine lv_iload_n hx hb dX1_isIn_0 rfl (lv_at hl 0 rfl) ?_
  refine lv_iload_n hx hb dX1_isIn_1 rfl (lv_at hl 1 rfl) ?_
  obtain ⟨hft, hff⟩ := hf
  refine lv_icmp_lt (tgt := 14) hx hb dX1_isIn_2 (by decide) (fun c1 => ?_) (fun c1 => ?_)
  · have hf := hft c1
    refine lv_iconst (v := 0) hx hb dX1_isIn_14 rfl ?_
    exact hret _ _ _ dX1_isIn_15 hb_B0 hf
  · have hf := hff c1
    refine lv_iload_n hx hb dX1_isIn_5 rfl (lv_at hl 0 rfl) ?_
    refine lv_iload_n hx hb dX1_isIn_6 rfl (lv_at hl 2 rfl) ?_
    obtain ⟨hft, hff⟩ := hf
    refine lv_icmp_gt (tgt := 14) hx hb dX1_isIn_7 (by decide) (fun c1 => ?_) (fun c1 => ?_)
    · have hf := hft c1
      refine lv_iconst (v := 0) hx hb dX1_isIn_14 rfl ?_
      exact hret _ _ _ dX1_isIn_15 hb_B0 hf
    · have hf := hff c1
      refine lv_iconst (v := 1) hx hb dX1_isIn_10 rfl ?_
      refine lv_goto (tgt := 15) hx hb dX1_isIn_11 (by decide) ?_
      exact hret _ _ _ dX1_isIn_15 hb_B1 hf
def hw_X1_isOf (a0 : Int32) (a1 : Int32) (_ : Unit) (Q : Int32 → Unit → Prop) : Prop := (¬ ((a0 >>> (a1 &&& 31)) &&& 1) = 1 → Q 0 ()) ∧ (((a0 >>> (a1 &&& 31)) &&& 1) = 1 → Q 1 ())
set_option maxHeartbeats 4000000 in
set_option maxRecDepth 100000 in
theorem hk_X1_isOf (l : Launch) (D : va_G) (dA : Nat → ClassId) (a0 : Int32) (a1 : Int32) {Q : Int32 → Unit → Prop} (hf : hw_X1_isOf a0 a1 () Q) : Met l yX1_isOf (ws_ yX1_isOf cX1_isOf 2 (some .boolean)) (hb_R 0 0) (va_Pc [.int a0, .int a1] (hb_K D dA)) (vp_Si (fun r => Q r ())) 0 0 (fun _ => False) := by
  refine hp_Mz (LV := [(0, .int a0), (1, .int a1)]) (fun _ h => h) (by decide) rfl (Nat.le_of_ble_eq_true rfl) (fun p e s m args below meth c ls QQ C hU hl hret => ?_)
  have hx := C.1.1
  have hb := C.1.2.1
  refine lv_iload_n hx hb dX1_isOf_0 rfl (lv_at hl 0 rfl) ?_
  refine lv_iload_n hx hb dX1_isOf_1 rfl (lv_at hl 1 rfl) ?_
  refine lv_ishr hx hb dX1_isOf_2 ?_
  refine lv_iconst (v := 1) hx hb dX1_isOf_3 rfl ?_
  refine lv_iand hx hb dX1_isOf_4 ?_
  refine lv_iconst (v := 1) hx hb dX1_isOf_5 rfl ?_
  obtain ⟨hft, hff⟩ := hf
  refine lv_icmp_ne (tgt := 13) hx hb dX1_isOf_6 (by decide) (fun c1 => ?_) (fun c1 => ?_)
  · have hf := hft c1
    refine lv_iconst (v := 0) hx hb dX1_isOf_13 rfl ?_
    exact hret _ _ _ dX1_isOf_14 hb_B0 hf
  · have hf := hff c1
    refine lv_iconst (v := 1) hx hb dX1_isOf_9 rfl ?_
    refine lv_goto (tgt := 14) hx hb dX1_isOf_10 (by decide) ?_
    exact hret _ _ _ dX1_isOf_14 hb_B1 hf
def hw_X1_many (a0 : Int32) (_ : Unit) (Q : Int32 → Unit → Prop) : Prop := hw_J18_bitCount a0 () (fun r_1 _ => (Q r_1 ()))
set_option maxHeartbeats 4000000 in
set_option maxRecDepth 100000 in
theorem hk_X1_many (l : Launch) (D : va_G) (dA : Nat → ClassId) (a0 : Int32) {Q : Int32 → Unit → Prop} (hf : hw_X1_many a0 () Q) : Met l yX1_many (ws_ yX1_many cX1_many 1 (some .int)) (hb_R 1 20) (va_Pc [.int a0] (hb_K D dA)) (vp_Si (fun r => Q r ())) 0 0 (fun _ => False) := by
  refine hp_Mi (LV := [(0, .int a0)]) (fun _ h => h) (by decide) rfl (Nat.le_of_ble_eq_true rfl) (fun p e s m args below meth c ls QQ C hU hl hret => ?_)
  have hx := C.1.1
  have hb := C.1.2.1
  refine lv_iload_n hx hb dX1_many_0 rfl (lv_at hl 0 rfl) ?_
  refine hp_cs C hl.1 (As := [.int a0]) (rest := []) (hk_J18_bitCount l D dA a0 hf) (n := 1) q1107 q1108 q154 q1109 (by decide +kernel) rfl ⟨Nat.le_of_ble_eq_true rfl, Nat.le_of_ble_eq_true rfl⟩ ⟨Nat.zero_le _, Nat.zero_le _⟩ rfl (Nat.le_of_ble_eq_true rfl) dX1_many_1 (fun r_1 hf => ?_)
  exact hret _ _ _ dX1_many_4 hf
def hw_X11_told (a0 : Int32) (a1 : Int32) (_ : Unit) (Q : Int32 → Unit → Prop) : Prop := (¬ a0 = 0 → Q (a1 + a0) ()) ∧ (a0 = 0 → Q 0 ())
set_option maxHeartbeats 4000000 in
set_option maxRecDepth 100000 in
theorem hk_X11_told (l : Launch) (D : va_G) (dA : Nat → ClassId) (a0 : Int32) (a1 : Int32) {Q : Int32 → Unit → Prop} (hf : hw_X11_told a0 a1 () Q) : Met l yX11_told (ws_ yX11_told cX11_told 2 (some .int)) (hb_R 0 0) (va_Pc [.int a0, .int a1] (hb_K D dA)) (vp_Si (fun r => Q r ())) 0 0 (fun _ => False) := by
  refine hp_Mi (LV := [(0, .int a0), (1, .int a1)]) (fun _ h => h) (by decide) rfl (Nat.le_of_ble_eq_true rfl) (fun p e s m args below meth c ls QQ C hU hl hret => ?_)
  have hx := C.1.1
  have hb := C.1.2.1
  refine lv_iload_n hx hb dX11_told_0 rfl (lv_at hl 0 rfl) ?_
  obtain ⟨hft, hff⟩ := hf
  refine lv_if_ne (tgt := 8) hx hb dX11_told_1 (by decide) (fun c1 => ?_) (fun c1 => ?_)
  · have hf := hft c1
    refine lv_iload_n hx hb dX11_told_8 rfl (lv_at hl 1 rfl) ?_
    refine lv_iload_n hx hb dX11_told_9 rfl (lv_at hl 0 rfl) ?_
    refine lv_iadd hx hb dX11_told_10 ?_
    exact hret _ _ _ dX11_told_11 hf
  · have hf := hff c1
    refine lv_iconst (v := 0) hx hb dX11_told_4 rfl ?_
    refine lv_goto (tgt := 11) hx hb dX11_told_5 (by decide) ?_
    exact hret _ _ _ dX11_told_11 hf
def hw_X6_isDigit (a0 : Int32) (_ : Unit) (Q : Int32 → Unit → Prop) : Prop := (a0 < 48 → Q 0 ()) ∧ (¬ a0 < 48 → (57 < a0 → Q 0 ()) ∧ (¬ 57 < a0 → Q 1 ()))
set_option maxHeartbeats 4000000 in
set_option maxRecDepth 100000 in
theorem hk_X6_isDigit (l : Launch) (D : va_G) (dA : Nat → ClassId) (a0 : Int32) {Q : Int32 → Unit → Prop} (hf : hw_X6_isDigit a0 () Q) : Met l yX6_isDigit (ws_ yX6_isDigit cX6_isDigit 1 (some .boolean)) (hb_R 0 0) (va_Pc [.int a0] (hb_K D dA)) (vp_Si (fun r => Q r ())) 0 0 (fun _ => False) := by
  refine hp_Mz (LV := [(0, .int a0)]) (fun _ h => h) (by decide) rfl (Nat.le_of_ble_eq_true rfl) (fun p e s m args below meth c ls QQ C hU hl hret => ?_)
  have hx := C.1.1
  have hb := C.1.2.1
  refine lv_iload_n hx hb dX6_isDigit_0 rfl (lv_at hl 0 rfl) ?_
  refine lv_bipush (v := 48) hx hb dX6_isDigit_1 rfl ?_
  obtain ⟨hft, hff⟩ := hf
  refine lv_icmp_lt (tgt := 16) hx hb dX6_isDigit_3 (by decide) (fun c1 => ?_) (fun c1 => ?_)
  · have hf := hft c1
    refine lv_iconst (v := 0) hx hb dX6_isDigit_16 rfl ?_
    exact hret _ _ _ dX6_isDigit_17 hb_B0 hf
  · have hf := hff c1
    refine lv_iload_n hx hb dX6_isDigit_6 rfl (lv_at hl 0 rfl) ?_
    refine lv_bipush (v := 57) hx hb dX6_isDigit_7 rfl ?_
    obtain ⟨hft, hff⟩ := hf
    refine lv_icmp_gt (tgt := 16) hx hb dX6_isDigit_9 (by decide) (fun c1 => ?_) (fun c1 => ?_)
    · have hf := hft c1
      refine lv_iconst (v := 0) hx hb dX6_isDigit_16 rfl ?_
      exact hret _ _ _ dX6_isDigit_17 hb_B0 hf
    · have hf := hff c1
      refine lv_iconst (v := 1) hx hb dX6_isDigit_12 rfl ?_
      refine lv_goto (tgt := 17) hx hb dX6_isDigit_13 (by decide) ?_
      exact hret _ _ _ dX6_isDigit_17 hb_B1 hf
def hw_X6_isLetter (a0 : Int32) (_ : Unit) (Q : Int32 → Unit → Prop) : Prop := (a0 < 97 → Q 0 ()) ∧ (¬ a0 < 97 → (122 < a0 → Q 0 ()) ∧ (¬ 122 < a0 → Q 1 ()))
set_option maxHeartbeats 4000000 in
set_option maxRecDepth 100000 in
theorem hk_X6_isLetter (l : Launch) (D : va_G) (dA : Nat → ClassId) (a0 : Int32) {Q : Int32 → Unit → Prop} (hf : hw_X6_isLetter a0 () Q) : Met l yX6_isLetter (ws_ yX6_isLetter cX6_isLetter 1 (some .boolean)) (hb_R 0 0) (va_Pc [.int a0] (hb_K D dA)) (vp_Si (fun r => Q r ())) 0 0 (fun _ => False) := by
  refine hp_Mz (LV := [(0, .int a0)]) (fun _ h => h) (by decide) rfl (Nat.le_of_ble_eq_true rfl) (fun p e s m args below meth c ls QQ C hU hl hret => ?_)
  have hx := C.1.1
  have hb := C.1.2.1
  refine lv_iload_n hx hb dX6_isLetter_0 rfl (lv_at hl 0 rfl) ?_
  refine lv_bipush (v := 97) hx hb dX6_isLetter_1 rfl ?_
  obtain ⟨hft, hff⟩ := hf
  refine lv_icmp_lt (tgt := 16) hx hb dX6_isLetter_3 (by decide) (fun c1 => ?_) (fun c1 => ?_)
  · have hf := hft c1
    refine lv_iconst (v := 0) hx hb dX6_isLetter_16 rfl ?_
    exact hret _ _ _ dX6_isLetter_17 hb_B0 hf
  · have hf := hff c1
    refine lv_iload_n hx hb dX6_isLetter_6 rfl (lv_at hl 0 rfl) ?_
    refine lv_bipush (v := 122) hx hb dX6_isLetter_7 rfl ?_
    obtain ⟨hft, hff⟩ := hf
    refine lv_icmp_gt (tgt := 16) hx hb dX6_isLetter_9 (by decide) (fun c1 => ?_) (fun c1 => ?_)
    · have hf := hft c1
      refine lv_iconst (v := 0) hx hb dX6_isLetter_16 rfl ?_
      exact hret _ _ _ dX6_isLetter_17 hb_B0 hf
    · have hf := hff c1
      refine lv_iconst (v := 1) hx hb dX6_isLetter_12 rfl ?_
      refine lv_goto (tgt := 17) hx hb dX6_isLetter_13 (by decide) ?_
      exact hret _ _ _ dX6_isLetter_17 hb_B1 hf
