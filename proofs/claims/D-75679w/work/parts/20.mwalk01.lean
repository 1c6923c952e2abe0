set_option maxRecDepth 100000
def hw_readLine  (σ : hm_S) (Q : Int32 → hm_S → Prop) : Prop := hw_isWord 123581014175598 σ (fun r_4 σ_4 => ((r_4 = 0 → hw_isWord 123563833388660 σ_4 (fun r_19 σ_19 => ((r_19 = 0 → hw_isWord 7824740 σ_19 (fun r_34 σ_34 => ((r_34 = 0 → hw_isWord 2003397740 σ_34 (fun r_49 σ_49 => ((r_49 = 0 → hw_isWord 1684628851 σ_49 (fun r_64 σ_64 => ((r_64 = 0 → hw_isWord 512869298039 σ_64 (fun r_79 σ_79 => ((¬ r_79 = 0 → ((hm_gI σ_79 20) = 0 → hw_next  (hm_sI σ_79 20 1) (fun σ_110 => (hw_puts 2 0 100 σ_110 (fun r_118 σ_118 => (hb_B r_118 ∧ Q r_118 σ_118))))) ∧ (¬ (hm_gI σ_79 20) = 0 → hw_bad 3 σ_79 (fun r_100 σ_100 => (hb_B r_100 ∧ Q r_100 σ_100)))) ∧ (r_79 = 0 → hw_bad 1 σ_79 (fun r_87 σ_87 => (hb_B r_87 ∧ Q r_87 σ_87)))))) ∧ (¬ r_64 = 0 → hw_readDies  σ_64 (fun r_71 σ_71 => (hb_B r_71 ∧ Q r_71 σ_71)))))) ∧ (¬ r_49 = 0 → hw_readWill  σ_49 (fun r_56 σ_56 => (hb_B r_56 ∧ Q r_56 σ_56)))))) ∧ (¬ r_34 = 0 → hw_readWed  σ_34 (fun r_41 σ_41 => (hb_B r_41 ∧ Q r_41 σ_41)))))) ∧ (¬ r_19 = 0 → hw_readParent  σ_19 (fun r_26 σ_26 => (hb_B r_26 ∧ Q r_26 σ_26)))))) ∧ (¬ r_4 = 0 → hw_readPerson  σ_4 (fun r_11 σ_11 => (hb_B r_11 ∧ Q r_11 σ_11)))))
set_option maxHeartbeats 4000000 in
set_option maxRecDepth 100000 in
theorem hk_readLine (l : Launch) (D : va_G) (dA : Nat → ClassId) (o : Nat) (b : Nat → Nat) (hB : hm_D dA o b)  (σ : hm_S) {Q : Int32 → hm_S → Prop} (hf : hw_readLine  σ Q) : Met l yX5_readLine (ws_ yX5_readLine cX5_readLine 1 (some .boolean)) (hb_R 5 109) (va_Pc [.ref o] (hm_U D dA o b σ)) (va_Qi Q (hm_U D dA o b) (hm_A o b)) 0 0 (hm_A o b) := by
  refine hm_Mz hB (LV := [(0, .ref o)]) (by decide) rfl (Nat.le_of_ble_eq_true rfl) (fun p e s m args below meth c ls QQ C M hl hret => ?_)
  have hx := C.1.1
  have hb := C.1.2.1
  refine lv_aload_n hx hb dX5_readLine_0 rfl (lv_at hl 0 rfl) ?_
  refine lv_ldc2 hx hb C.1.2.2.2.1 (C.1.2.2.2.2 _ q2040) dX5_readLine_1 ?_
  refine hm_ci C M hl.1 (As := [.long 123581014175598]) (rest := []) (hk_isWord l D dA o b hB 123581014175598 σ hf) (n := 1) q2252 q2254 qs53 q140 q2255 (by decide +kernel) rfl ⟨Nat.le_of_ble_eq_true rfl, Nat.le_of_ble_eq_true rfl⟩ rfl (Nat.le_of_ble_eq_true rfl) dX5_readLine_4 (fun r_4 σ_4 H locs hf M => ?_)
  obtain ⟨hft, hff⟩ := hf
  refine lv_if_eq (tgt := 15) hx hb dX5_readLine_7 (by decide) (fun c1 => ?_) (fun c1 => ?_)
  · have hf := hft c1
    refine lv_aload_n hx hb dX5_readLine_15 rfl (lv_at hl 0 rfl) ?_
    refine lv_ldc2 hx hb C.1.2.2.2.1 (C.1.2.2.2.2 _ q2041) dX5_readLine_16 ?_
    refine hm_ci C M hl.1 (As := [.long 123563833388660]) (rest := []) (hk_isWord l D dA o b hB 123563833388660 σ_4 hf) (n := 1) q2252 q2254 qs53 q140 q2255 (by decide +kernel) rfl ⟨Nat.le_of_ble_eq_true rfl, Nat.le_of_ble_eq_true rfl⟩ rfl (Nat.le_of_ble_eq_true rfl) dX5_readLine_19 (fun r_19 σ_19 H locs hf M => ?_)
    obtain ⟨hft, hff⟩ := hf
    refine lv_if_eq (tgt := 30) hx hb dX5_readLine_22 (by decide) (fun c1 => ?_) (fun c1 => ?_)
    · have hf := hft c1
      refine lv_aload_n hx hb dX5_readLine_30 rfl (lv_at hl 0 rfl) ?_
      refine lv_ldc2 hx hb C.1.2.2.2.1 (C.1.2.2.2.2 _ q2042) dX5_readLine_31 ?_
      refine hm_ci C M hl.1 (As := [.long 7824740]) (rest := []) (hk_isWord l D dA o b hB 7824740 σ_19 hf) (n := 1) q2252 q2254 qs53 q140 q2255 (by decide +kernel) rfl ⟨Nat.le_of_ble_eq_true rfl, Nat.le_of_ble_eq_true rfl⟩ rfl (Nat.le_of_ble_eq_true rfl) dX5_readLine_34 (fun r_34 σ_34 H locs hf M => ?_)
      obtain ⟨hft, hff⟩ := hf
      refine lv_if_eq (tgt := 45) hx hb dX5_readLine_37 (by decide) (fun c1 => ?_) (fun c1 => ?_)
      · have hf := hft c1
        refine lv_aload_n hx hb dX5_readLine_45 rfl (lv_at hl 0 rfl) ?_
        refine lv_ldc2 hx hb C.1.2.2.2.1 (C.1.2.2.2.2 _ q2043) dX5_readLine_46 ?_
        refine hm_ci C M hl.1 (As := [.long 2003397740]) (rest := []) (hk_isWord l D dA o b hB 2003397740 σ_34 hf) (n := 1) q2252 q2254 qs53 q140 q2255 (by decide +kernel) rfl ⟨Nat.le_of_ble_eq_true rfl, Nat.le_of_ble_eq_true rfl⟩ rfl (Nat.le_of_ble_eq_true rfl) dX5_readLine_49 (fun r_49 σ_49 H locs hf M => ?_)
        obtain ⟨hft, hff⟩ := hf
        refine lv_if_eq (tgt := 60) hx hb dX5_readLine_52 (by decide) (fun c1 => ?_) (fun c1 => ?_)
        · have hf := hft c1
          refine lv_aload_n hx hb dX5_readLine_60 rfl (lv_at hl 0 rfl) ?_
          refine lv_ldc2 hx hb C.1.2.2.2.1 (C.1.2.2.2.2 _ q2044) dX5_readLine_61 ?_
          refine hm_ci C M hl.1 (As := [.long 1684628851]) (rest := []) (hk_isWord l D dA o b hB 1684628851 σ_49 hf) (n := 1) q2252 q2254 qs53 q140 q2255 (by decide +kernel) rfl ⟨Nat.le_of_ble_eq_true rfl, Nat.le_of_ble_eq_true rfl⟩ rfl (Nat.le_of_ble_eq_true rfl) dX5_readLine_64 (fun r_64 σ_64 H locs hf M => ?_)
          obtain ⟨hft, hff⟩ := hf
          refine lv_if_eq (tgt := 75) hx hb dX5_readLine_67 (by decide) (fun c1 => ?_) (fun c1 => ?_)
          · have hf := hft c1
            refine lv_aload_n hx hb dX5_readLine_75 rfl (lv_at hl 0 rfl) ?_
            refine lv_ldc2 hx hb C.1.2.2.2.1 (C.1.2.2.2.2 _ q2045) dX5_readLine_76 ?_
            refine hm_ci C M hl.1 (As := [.long 512869298039]) (rest := []) (hk_isWord l D dA o b hB 512869298039 σ_64 hf) (n := 1) q2252 q2254 qs53 q140 q2255 (by decide +kernel) rfl ⟨Nat.le_of_ble_eq_true rfl, Nat.le_of_ble_eq_true rfl⟩ rfl (Nat.le_of_ble_eq_true rfl) dX5_readLine_79 (fun r_79 σ_79 H locs hf M => ?_)
            obtain ⟨hft, hff⟩ := hf
            refine lv_if_ne (tgt := 91) hx hb dX5_readLine_82 (by decide) (fun c1 => ?_) (fun c1 => ?_)
            · have hf := hft c1
              refine lv_aload_n hx hb dX5_readLine_91 rfl (lv_at hl 0 rfl) ?_
              refine hm_get C M 20 (by decide) q2087 (v := .int (hm_gI σ_79 20)) rfl dX5_readLine_92 ?_
              obtain ⟨hft, hff⟩ := hf
              refine lv_if_eq (tgt := 104) hx hb dX5_readLine_95 (by decide) (fun c1 => ?_) (fun c1 => ?_)
              · have hf := hft c1
                refine lv_aload_n hx hb dX5_readLine_104 rfl (lv_at hl 0 rfl) ?_
                refine lv_iconst (v := 1) hx hb dX5_readLine_105 rfl ?_
                refine hm_put20 C M hb_B1 q2087 dX5_readLine_106 (fun H locs M => ?_)
                refine lv_aload_n hx hb dX5_readLine_109 rfl (lv_at hl 0 rfl) ?_
                refine hm_cv C M hl.1 (As := []) (rest := []) (hk_next l D dA o b hB  (hm_sI σ_79 20 1) hf) (n := 0) q2234 q2236 qs50 q140 q2237 (by decide +kernel) rfl ⟨Nat.le_of_ble_eq_true rfl, Nat.le_of_ble_eq_true rfl⟩ rfl (Nat.le_of_ble_eq_true rfl) dX5_readLine_110 (fun σ_110 H locs hf M => ?_)
                refine lv_aload_n hx hb dX5_readLine_113 rfl (lv_at hl 0 rfl) ?_
                refine lv_iconst (v := 2) hx hb dX5_readLine_114 rfl ?_
                refine lv_iconst (v := 0) hx hb dX5_readLine_115 rfl ?_
                refine lv_bipush (v := 100) hx hb dX5_readLine_116 rfl ?_
                refine hm_ci C M hl.1 (As := [.int 2, .int 0, .int 100]) (rest := []) (hk_puts l D dA o b hB 2 0 100 σ_110 hf) (n := 3) q2272 q2274 qs58 q140 q2275 (by decide +kernel) rfl ⟨Nat.le_of_ble_eq_true rfl, Nat.le_of_ble_eq_true rfl⟩ rfl (Nat.le_of_ble_eq_true rfl) dX5_readLine_118 (fun r_118 σ_118 H locs hf M => ?_)
                exact hret _ _ _ _ _ _ dX5_readLine_121 M hf.1 hf.2
              · have hf := hff c1
                refine lv_aload_n hx hb dX5_readLine_98 rfl (lv_at hl 0 rfl) ?_
                refine lv_iconst (v := 3) hx hb dX5_readLine_99 rfl ?_
                refine hm_ci C M hl.1 (As := [.int 3]) (rest := []) (hk_bad l D dA o b hB 3 σ_79 hf) (n := 1) q2260 q2262 qs55 q140 q2263 (by decide +kernel) rfl ⟨Nat.le_of_ble_eq_true rfl, Nat.le_of_ble_eq_true rfl⟩ rfl (Nat.le_of_ble_eq_true rfl) dX5_readLine_100 (fun r_100 σ_100 H locs hf M => ?_)
                exact hret _ _ _ _ _ _ dX5_readLine_103 M hf.1 hf.2
            · have hf := hff c1
              refine lv_aload_n hx hb dX5_readLine_85 rfl (lv_at hl 0 rfl) ?_
              refine lv_iconst (v := 1) hx hb dX5_readLine_86 rfl ?_
              refine hm_ci C M hl.1 (As := [.int 1]) (rest := []) (hk_bad l D dA o b hB 1 σ_79 hf) (n := 1) q2260 q2262 qs55 q140 q2263 (by decide +kernel) rfl ⟨Nat.le_of_ble_eq_true rfl, Nat.le_of_ble_eq_true rfl⟩ rfl (Nat.le_of_ble_eq_true rfl) dX5_readLine_87 (fun r_87 σ_87 H locs hf M => ?_)
              exact hret _ _ _ _ _ _ dX5_readLine_90 M hf.1 hf.2
          · have hf := hff c1
            refine lv_aload_n hx hb dX5_readLine_70 rfl (lv_at hl 0 rfl) ?_
            refine hm_ci C M hl.1 (As := []) (rest := []) (hk_readDies l D dA o b hB  σ_64 hf) (n := 0) q2313 q2315 qs66 q140 q2316 (by decide +kernel) rfl ⟨Nat.le_of_ble_eq_true rfl, Nat.le_of_ble_eq_true rfl⟩ rfl (Nat.le_of_ble_eq_true rfl) dX5_readLine_71 (fun r_71 σ_71 H locs hf M => ?_)
            exact hret _ _ _ _ _ _ dX5_readLine_74 M hf.1 hf.2
        · have hf := hff c1
          refine lv_aload_n hx hb dX5_readLine_55 rfl (lv_at hl 0 rfl) ?_
          refine hm_ci C M hl.1 (As := []) (rest := []) (hk_readWill l D dA o b hB  σ_49 hf) (n := 0) q2301 q2303 qs63 q140 q2304 (by decide +kernel) rfl ⟨Nat.le_of_ble_eq_true rfl, Nat.le_of_ble_eq_true rfl⟩ rfl (Nat.le_of_ble_eq_true rfl) dX5_readLine_56 (fun r_56 σ_56 H locs hf M => ?_)
          exact hret _ _ _ _ _ _ dX5_readLine_59 M hf.1 hf.2
      · have hf := hff c1
        refine lv_aload_n hx hb dX5_readLine_40 rfl (lv_at hl 0 rfl) ?_
        refine hm_ci C M hl.1 (As := []) (rest := []) (hk_readWed l D dA o b hB  σ_34 hf) (n := 0) q2297 q2299 qs62 q140 q2300 (by decide +kernel) rfl ⟨Nat.le_of_ble_eq_true rfl, Nat.le_of_ble_eq_true rfl⟩ rfl (Nat.le_of_ble_eq_true rfl) dX5_readLine_41 (fun r_41 σ_41 H locs hf M => ?_)
        exact hret _ _ _ _ _ _ dX5_readLine_44 M hf.1 hf.2
    · have hf := hff c1
      refine lv_aload_n hx hb dX5_readLine_25 rfl (lv_at hl 0 rfl) ?_
      refine hm_ci C M hl.1 (As := []) (rest := []) (hk_readParent l D dA o b hB  σ_19 hf) (n := 0) q2283 q2285 qs60 q140 q2286 (by decide +kernel) rfl ⟨Nat.le_of_ble_eq_true rfl, Nat.le_of_ble_eq_true rfl⟩ rfl (Nat.le_of_ble_eq_true rfl) dX5_readLine_26 (fun r_26 σ_26 H locs hf M => ?_)
      exact hret _ _ _ _ _ _ dX5_readLine_29 M hf.1 hf.2
  · have hf := hff c1
    refine lv_aload_n hx hb dX5_readLine_10 rfl (lv_at hl 0 rfl) ?_
    refine hm_ci C M hl.1 (As := []) (rest := []) (hk_readPerson l D dA o b hB  σ_4 hf) (n := 0) q2256 q2258 qs54 q140 q2259 (by decide +kernel) rfl ⟨Nat.le_of_ble_eq_true rfl, Nat.le_of_ble_eq_true rfl⟩ rfl (Nat.le_of_ble_eq_true rfl) dX5_readLine_11 (fun r_11 σ_11 H locs hf M => ?_)
    exact hret _ _ _ _ _ _ dX5_readLine_14 M hf.1 hf.2
def hw_isSign (a1 : Int32) (σ : hm_S) (Q : Int32 → hm_S → Prop) : Prop := (¬ (hm_gI σ 11) = 3 → Q 0 σ) ∧ ((hm_gI σ 11) = 3 → (¬ (hm_gI σ 14) = a1 → Q 0 σ) ∧ ((hm_gI σ 14) = a1 → Q 1 σ))
set_option maxHeartbeats 4000000 in
set_option maxRecDepth 100000 in
theorem hk_isSign (l : Launch) (D : va_G) (dA : Nat → ClassId) (o : Nat) (b : Nat → Nat) (hB : hm_D dA o b) (a1 : Int32) (σ : hm_S) {Q : Int32 → hm_S → Prop} (hf : hw_isSign a1 σ Q) : Met l yX5_isSign (ws_ yX5_isSign cX5_isSign 2 (some .boolean)) (hb_R 0 0) (va_Pc [.ref o, .int a1] (hm_U D dA o b σ)) (va_Qi Q (hm_U D dA o b) (hm_A o b)) 0 0 (hm_A o b) := by
  refine hm_Mz hB (LV := [(0, .ref o), (1, .int a1)]) (by decide) rfl (Nat.le_of_ble_eq_true rfl) (fun p e s m args below meth c ls QQ C M hl hret => ?_)
  have hx := C.1.1
  have hb := C.1.2.1
  refine lv_aload_n hx hb dX5_isSign_0 rfl (lv_at hl 0 rfl) ?_
  refine hm_get C M 11 (by decide) q2078 (v := .int (hm_gI σ 11)) rfl dX5_isSign_1 ?_
  refine lv_iconst (v := 3) hx hb dX5_isSign_4 rfl ?_
  obtain ⟨hft, hff⟩ := hf
  refine lv_icmp_ne (tgt := 20) hx hb dX5_isSign_5 (by decide) (fun c1 => ?_) (fun c1 => ?_)
  · have hf := hft c1
    refine lv_iconst (v := 0) hx hb dX5_isSign_20 rfl ?_
    exact hret _ _ _ _ _ _ dX5_isSign_21 M hb_B0 hf
  · have hf := hff c1
    refine lv_aload_n hx hb dX5_isSign_8 rfl (lv_at hl 0 rfl) ?_
    refine hm_get C M 14 (by decide) q2081 (v := .int (hm_gI σ 14)) rfl dX5_isSign_9 ?_
    refine lv_iload_n hx hb dX5_isSign_12 rfl (lv_at hl 1 rfl) ?_
    obtain ⟨hft, hff⟩ := hf
    refine lv_icmp_ne (tgt := 20) hx hb dX5_isSign_13 (by decide) (fun c1 => ?_) (fun c1 => ?_)
    · have hf := hft c1
      refine lv_iconst (v := 0) hx hb dX5_isSign_20 rfl ?_
      exact hret _ _ _ _ _ _ dX5_isSign_21 M hb_B0 hf
    · have hf := hff c1
      refine lv_iconst (v := 1) hx hb dX5_isSign_16 rfl ?_
      refine lv_goto (tgt := 21) hx hb dX5_isSign_17 (by decide) ?_
      exact hret _ _ _ _ _ _ dX5_isSign_21 M hb_B1 hf
def hw_sign (a1 : Int32) (σ : hm_S) (Q : Int32 → hm_S → Prop) : Prop := hw_isSign a1 σ (fun r_2 σ_2 => ((¬ r_2 = 0 → hw_next  σ_2 (fun σ_15 => (Q 1 σ_15))) ∧ (r_2 = 0 → hw_bad 1 σ_2 (fun r_10 σ_10 => (hb_B r_10 ∧ Q r_10 σ_10)))))
set_option maxHeartbeats 4000000 in
set_option maxRecDepth 100000 in
theorem hk_sign (l : Launch) (D : va_G) (dA : Nat → ClassId) (o : Nat) (b : Nat → Nat) (hB : hm_D dA o b) (a1 : Int32) (σ : hm_S) {Q : Int32 → hm_S → Prop} (hf : hw_sign a1 σ Q) : Met l yX5_sign (ws_ yX5_sign cX5_sign 2 (some .boolean)) (hb_R 2 43) (va_Pc [.ref o, .int a1] (hm_U D dA o b σ)) (va_Qi Q (hm_U D dA o b) (hm_A o b)) 0 0 (hm_A o b) := by
  refine hm_Mz hB (LV := [(0, .ref o), (1, .int a1)]) (by decide) rfl (Nat.le_of_ble_eq_true rfl) (fun p e s m args below meth c ls QQ C M hl hret => ?_)
  have hx := C.1.1
  have hb := C.1.2.1
  refine lv_aload_n hx hb dX5_sign_0 rfl (lv_at hl 0 rfl) ?_
  refine lv_iload_n hx hb dX5_sign_1 rfl (lv_at hl 1 rfl) ?_
  refine hm_ci C M hl.1 (As := [.int a1]) (rest := []) (hk_isSign l D dA o b hB a1 σ hf) (n := 1) q2321 q2323 qs68 q140 q2324 (by decide +kernel) rfl ⟨Nat.le_of_ble_eq_true rfl, Nat.le_of_ble_eq_true rfl⟩ rfl (Nat.le_of_ble_eq_true rfl) dX5_sign_2 (fun r_2 σ_2 H locs hf M => ?_)
  obtain ⟨hft, hff⟩ := hf
  refine lv_if_ne (tgt := 14) hx hb dX5_sign_5 (by decide) (fun c1 => ?_) (fun c1 => ?_)
  · have hf := hft c1
    refine lv_aload_n hx hb dX5_sign_14 rfl (lv_at hl 0 rfl) ?_
    refine hm_cv C M hl.1 (As := []) (rest := []) (hk_next l D dA o b hB  σ_2 hf) (n := 0) q2234 q2236 qs50 q140 q2237 (by decide +kernel) rfl ⟨Nat.le_of_ble_eq_true rfl, Nat.le_of_ble_eq_true rfl⟩ rfl (Nat.le_of_ble_eq_true rfl) dX5_sign_15 (fun σ_15 H locs hf M => ?_)
    refine lv_iconst (v := 1) hx hb dX5_sign_18 rfl ?_
    exact hret _ _ _ _ _ _ dX5_sign_19 M hb_B1 hf
  · have hf := hff c1
    refine lv_aload_n hx hb dX5_sign_8 rfl (lv_at hl 0 rfl) ?_
    refine lv_iconst (v := 1) hx hb dX5_sign_9 rfl ?_
    refine hm_ci C M hl.1 (As := [.int 1]) (rest := []) (hk_bad l D dA o b hB 1 σ_2 hf) (n := 1) q2260 q2262 qs55 q140 q2263 (by decide +kernel) rfl ⟨Nat.le_of_ble_eq_true rfl, Nat.le_of_ble_eq_true rfl⟩ rfl (Nat.le_of_ble_eq_true rfl) dX5_sign_10 (fun r_10 σ_10 H locs hf M => ?_)
    exact hret _ _ _ _ _ _ dX5_sign_13 M hf.1 hf.2
def hw_taken (a1 : Int32) (σ : hm_S) (Q : hm_S → Prop) : Prop := Q (hm_sI (hm_sI (hm_sI (hm_sI σ 3 (hm_gI σ 2)) 2 0) 4 0) 5 a1)
set_option maxHeartbeats 4000000 in
set_option maxRecDepth 100000 in
theorem hk_taken (l : Launch) (D : va_G) (dA : Nat → ClassId) (o : Nat) (b : Nat → Nat) (hB : hm_D dA o b) (a1 : Int32) (σ : hm_S) {Q : hm_S → Prop} (hf : hw_taken a1 σ Q) : Met l yX5_taken (ws_ yX5_taken cX5_taken 2 none) (hb_R 0 0) (va_Pc [.ref o, .int a1] (hm_U D dA o b σ)) (va_Qv Q (hm_U D dA o b) (hm_A o b)) 0 0 (hm_A o b) := by
  refine hm_Mv hB (LV := [(0, .ref o), (1, .int a1)]) (by decide) rfl (Nat.le_of_ble_eq_true rfl) (fun p e s m args below meth c ls QQ C M hl hret => ?_)
  have hx := C.1.1
  have hb := C.1.2.1
  refine lv_aload_n hx hb dX5_taken_0 rfl (lv_at hl 0 rfl) ?_
  refine lv_aload_n hx hb dX5_taken_1 rfl (lv_at hl 0 rfl) ?_
  refine hm_get C M 2 (by decide) q2069 (v := .int (hm_gI σ 2)) rfl dX5_taken_2 ?_
  refine hm_put3 C M q2070 dX5_taken_5 (fun H locs M => ?_)
  refine lv_aload_n hx hb dX5_taken_8 rfl (lv_at hl 0 rfl) ?_
  refine lv_iconst (v := 0) hx hb dX5_taken_9 rfl ?_
  refine hm_put2 C M q2069 dX5_taken_10 (fun H locs M => ?_)
  refine lv_aload_n hx hb dX5_taken_13 rfl (lv_at hl 0 rfl) ?_
  refine lv_iconst (v := 0) hx hb dX5_taken_14 rfl ?_
  refine hm_put4 C M q2071 dX5_taken_15 (fun H locs M => ?_)
  refine lv_aload_n hx hb dX5_taken_18 rfl (lv_at hl 0 rfl) ?_
  refine lv_iload_n hx hb dX5_taken_19 rfl (lv_at hl 1 rfl) ?_
  refine hm_put5 C M q2072 dX5_taken_20 (fun H locs M => ?_)
  exact hret _ _ _ _ _ dX5_taken_23 M hf
def hw_family_b169 : Nat → Int32 → hm_S → (Int32 → hm_S → Prop) → Prop
  | 0, _, _, _ => False
  | n169 + 1, v1_169, σ169, Q => (12 ≤ v1_169 → Q (hm_gI (hm_sI σ169 26 0) 19) (hm_sI σ169 26 0)) ∧ (¬ 12 ≤ v1_169 → vp_in (15 + v1_169) 346 ∧ (vp_in (105 + v1_169) 346 ∧ (vp_in (39 + v1_169) 346 ∧ (vp_in (117 + v1_169) 346 ∧ (vp_in (64 + v1_169) 346 ∧ (vp_in (129 + v1_169) 346 ∧ (vp_in (76 + v1_169) 346 ∧ (vp_in (141 + v1_169) 346 ∧ (vp_in (88 + v1_169) 346 ∧ (vp_in (153 + v1_169) 346 ∧ (hw_family_b169  n169 (v1_169 + 1) (hm_sA (hm_sA (hm_sA (hm_sA (hm_sA σ169 6 (105 + v1_169) (hm_gA σ169 6 (15 + v1_169))) 6 (117 + v1_169) (hm_gA (hm_sA σ169 6 (105 + v1_169) (hm_gA σ169 6 (15 + v1_169))) 6 (39 + v1_169))) 6 (129 + v1_169) (hm_gA (hm_sA (hm_sA σ169 6 (105 + v1_169) (hm_gA σ169 6 (15 + v1_169))) 6 (117 + v1_169) (hm_gA (hm_sA σ169 6 (105 + v1_169) (hm_gA σ169 6 (15 + v1_169))) 6 (39 + v1_169))) 6 (64 + v1_169))) 6 (141 + v1_169) (hm_gA (hm_sA (hm_sA (hm_sA σ169 6 (105 + v1_169) (hm_gA σ169 6 (15 + v1_169))) 6 (117 + v1_169) (hm_gA (hm_sA σ169 6 (105 + v1_169) (hm_gA σ169 6 (15 + v1_169))) 6 (39 + v1_169))) 6 (129 + v1_169) (hm_gA (hm_sA (hm_sA σ169 6 (105 + v1_169) (hm_gA σ169 6 (15 + v1_169))) 6 (117 + v1_169) (hm_gA (hm_sA σ169 6 (105 + v1_169) (hm_gA σ169 6 (15 + v1_169))) 6 (39 + v1_169))) 6 (64 + v1_169))) 6 (76 + v1_169))) 6 (153 + v1_169) (hm_gA (hm_sA (hm_sA (hm_sA (hm_sA σ169 6 (105 + v1_169) (hm_gA σ169 6 (15 + v1_169))) 6 (117 + v1_169) (hm_gA (hm_sA σ169 6 (105 + v1_169) (hm_gA σ169 6 (15 + v1_169))) 6 (39 + v1_169))) 6 (129 + v1_169) (hm_gA (hm_sA (hm_sA σ169 6 (105 + v1_169) (hm_gA σ169 6 (15 + v1_169))) 6 (117 + v1_169) (hm_gA (hm_sA σ169 6 (105 + v1_169) (hm_gA σ169 6 (15 + v1_169))) 6 (39 + v1_169))) 6 (64 + v1_169))) 6 (141 + v1_169) (hm_gA (hm_sA (hm_sA (hm_sA σ169 6 (105 + v1_169) (hm_gA σ169 6 (15 + v1_169))) 6 (117 + v1_169) (hm_gA (hm_sA σ169 6 (105 + v1_169) (hm_gA σ169 6 (15 + v1_169))) 6 (39 + v1_169))) 6 (129 + v1_169) (hm_gA (hm_sA (hm_sA σ169 6 (105 + v1_169) (hm_gA σ169 6 (15 + v1_169))) 6 (117 + v1_169) (hm_gA (hm_sA σ169 6 (105 + v1_169) (hm_gA σ169 6 (15 + v1_169))) 6 (39 + v1_169))) 6 (64 + v1_169))) 6 (76 + v1_169))) 6 (88 + v1_169))) Q)))))))))))
def hw_family_b117 : Nat → Int32 → hm_S → (Int32 → hm_S → Prop) → Prop
  | 0, _, _, _ => False
  | n117 + 1, v1_117, σ117, Q => (12 ≤ v1_117 → vp_in 100 346 ∧ (vp_in 63 346 ∧ (vp_in 104 346 ∧ (∃ n, hw_family_b169  n 0 (hm_sA (hm_sA σ117 6 100 100) 6 104 (hm_gA (hm_sA σ117 6 100 100) 6 63)) Q)))) ∧ (¬ 12 ≤ v1_117 → vp_in (12 + v1_117) 24 ∧ (vp_in v1_117 24 ∧ (hw_family_b117  n117 (v1_117 + 1) (hm_sL σ117 9 v1_117 (hm_gL σ117 9 (12 + v1_117))) Q)))
def hw_family_b80 : Nat → Int32 → hm_S → (Int32 → hm_S → Prop) → Prop
  | 0, _, _, _ => False
  | n80 + 1, v1_80, σ80, Q => (346 ≤ v1_80 → ∃ n, hw_family_b117  n 0 σ80 Q) ∧ (¬ 346 ≤ v1_80 → (100 ≤ v1_80 → vp_in v1_80 346 ∧ (hw_family_b80  n80 (v1_80 + 1) (hm_sA σ80 6 v1_80 0) Q)) ∧ (¬ 100 ≤ v1_80 → vp_in v1_80 100 ∧ (vp_in v1_80 346 ∧ (hw_family_b80  n80 (v1_80 + 1) (hm_sA σ80 6 v1_80 (hm_gA σ80 7 v1_80)) Q))))
def hw_family_b35 : Nat → hm_S → (Int32 → hm_S → Prop) → Prop
  | 0, _, _ => False
  | n35 + 1, σ35, Q => ((hm_gI σ35 11) = 0 → ∃ n, hw_family_b80  n 0 σ35 Q) ∧ (¬ (hm_gI σ35 11) = 0 → hw_readLine  σ35 (fun r_43 σ_43 => ((r_43 = 0 → Q ((-1) - (hm_gI σ_43 16)) σ_43) ∧ (¬ r_43 = 0 → hw_sign 59 σ_43 (fun r_52 σ_52 => ((¬ r_52 = 0 → hw_family_b35  n35  (hm_sI σ_52 19 ((hm_gI σ_52 19) + 1)) Q) ∧ (r_52 = 0 → Q ((-1) - (hm_gI σ_52 16)) σ_52)))))))
def hw_family  (σ : hm_S) (Q : Int32 → hm_S → Prop) : Prop := hw_taken 900 (hm_sI σ 0 0) (fun σ_9 => (hw_clears  (hm_sI (hm_sI (hm_sI σ_9 15 0) 19 0) 20 0) (fun σ_28 => (hw_next  σ_28 (fun σ_32 => (∃ n, hw_family_b35  n  σ_32 Q))))))
set_option maxHeartbeats 4000000 in
set_option maxRecDepth 100000 in
theorem hk_family (l : Launch) (D : va_G) (dA : Nat → ClassId) (o : Nat) (b : Nat → Nat) (hB : hm_D dA o b)  (σ : hm_S) {Q : Int32 → hm_S → Prop} (hf : hw_family  σ Q) : Met l yX5_family (ws_ yX5_family cX5_family 2 (some .int)) (hb_R 6 129) (va_Pc [.ref o] (hm_U D dA o b σ)) (va_Qi Q (hm_U D dA o b) (hm_A o b)) 0 0 (hm_A o b) := by
  refine hm_Mi hB (LV := [(0, .ref o)]) (by decide) rfl (Nat.le_of_ble_eq_true rfl) (fun p e s m args below meth c ls QQ C M hl hret => ?_)
  have hx := C.1.1
  have hb := C.1.2.1
  have B169 : ∀ (n169 : Nat) (v1_169 : Int32) (σ169 : hm_S) (H : Heap) (locs : List Loc) (ls : Array Slot), hm_M D dA o b s.heap σ169 H locs → lv_has ls 2 [(0, .ref o), (1, .int v1_169)] → hw_family_b169  n169 v1_169 σ169 Q → W p l e (hb_R 6 129) s m args below meth c H locs 0 0 QQ (F0 m 169 ls []) := by
    intro n169
    induction n169 with
    | zero => intro v1_169 σ169 H locs ls M hl hf; exact hf.elim
    | succ n169 ih169 =>
      intro v1_169 σ169 H locs ls M hl hf
      refine lv_iload_n hx hb dX5_family_169 rfl (lv_at hl 1 rfl) ?_
      refine lv_bipush (v := 12) hx hb dX5_family_170 rfl ?_
      obtain ⟨hft, hff⟩ := hf
      refine lv_icmp_ge (tgt := 274) hx hb dX5_family_172 (by decide) (fun c1 => ?_) (fun c1 => ?_)
      · have hf := hft c1
        refine lv_aload_n hx hb dX5_family_274 rfl (lv_at hl 0 rfl) ?_
        refine lv_iconst (v := 0) hx hb dX5_family_275 rfl ?_
        refine hm_put26 C M q2093 dX5_family_276 (fun H locs M => ?_)
        refine lv_aload_n hx hb dX5_family_279 rfl (lv_at hl 0 rfl) ?_
        refine hm_get C M 19 (by decide) q2086 (v := .int (hm_gI (hm_sI σ169 26 0) 19)) rfl dX5_family_280 ?_
        exact hret _ _ _ _ _ _ dX5_family_283 M hf
      · have hf := hff c1
        refine lv_aload_n hx hb dX5_family_175 rfl (lv_at hl 0 rfl) ?_
        refine hm_get C M 6 (by decide) q2073 (v := .ref (b 6)) rfl dX5_family_176 ?_
        refine lv_bipush (v := 105) hx hb dX5_family_179 rfl ?_
        refine lv_iload_n hx hb dX5_family_181 rfl (lv_at hl 1 rfl) ?_
        refine lv_iadd hx hb dX5_family_182 ?_
        refine lv_aload_n hx hb dX5_family_183 rfl (lv_at hl 0 rfl) ?_
        refine hm_get C M 6 (by decide) q2073 (v := .ref (b 6)) rfl dX5_family_184 ?_
        refine lv_bipush (v := 15) hx hb dX5_family_187 rfl ?_
        refine lv_iload_n hx hb dX5_family_189 rfl (lv_at hl 1 rfl) ?_
        refine lv_iadd hx hb dX5_family_190 ?_
        obtain ⟨g1, hf⟩ := hf
        refine hm_ald6 C M g1 dX5_family_191 ?_
        obtain ⟨g1, hf⟩ := hf
        refine hm_ast6 C M g1 dX5_family_192 (fun H locs M => ?_)
        refine lv_aload_n hx hb dX5_family_193 rfl (lv_at hl 0 rfl) ?_
        refine hm_get C M 6 (by decide) q2073 (v := .ref (b 6)) rfl dX5_family_194 ?_
        refine lv_bipush (v := 117) hx hb dX5_family_197 rfl ?_
        refine lv_iload_n hx hb dX5_family_199 rfl (lv_at hl 1 rfl) ?_
        refine lv_iadd hx hb dX5_family_200 ?_
        refine lv_aload_n hx hb dX5_family_201 rfl (lv_at hl 0 rfl) ?_
        refine hm_get C M 6 (by decide) q2073 (v := .ref (b 6)) rfl dX5_family_202 ?_
        refine lv_bipush (v := 39) hx hb dX5_family_205 rfl ?_
        refine lv_iload_n hx hb dX5_family_207 rfl (lv_at hl 1 rfl) ?_
        refine lv_iadd hx hb dX5_family_208 ?_
        obtain ⟨g1, hf⟩ := hf
        refine hm_ald6 C M g1 dX5_family_209 ?_
        obtain ⟨g1, hf⟩ := hf
        refine hm_ast6 C M g1 dX5_family_210 (fun H locs M => ?_)
        refine lv_aload_n hx hb dX5_family_211 rfl (lv_at hl 0 rfl) ?_
        refine hm_get C M 6 (by decide) q2073 (v := .ref (b 6)) rfl dX5_family_212 ?_
        refine lv_sipush (v := 129) hx hb dX5_family_215 rfl ?_
        refine lv_iload_n hx hb dX5_family_218 rfl (lv_at hl 1 rfl) ?_
        refine lv_iadd hx hb dX5_family_219 ?_
        refine lv_aload_n hx hb dX5_family_220 rfl (lv_at hl 0 rfl) ?_
        refine hm_get C M 6 (by decide) q2073 (v := .ref (b 6)) rfl dX5_family_221 ?_
        refine lv_bipush (v := 64) hx hb dX5_family_224 rfl ?_
        refine lv_iload_n hx hb dX5_family_226 rfl (lv_at hl 1 rfl) ?_
        refine lv_iadd hx hb dX5_family_227 ?_
        obtain ⟨g1, hf⟩ := hf
        refine hm_ald6 C M g1 dX5_family_228 ?_
        obtain ⟨g1, hf⟩ := hf
        refine hm_ast6 C M g1 dX5_family_229 (fun H locs M => ?_)
        refine lv_aload_n hx hb dX5_family_230 rfl (lv_at hl 0 rfl) ?_
        refine hm_get C M 6 (by decide) q2073 (v := .ref (b 6)) rfl dX5_family_231 ?_
        refine lv_sipush (v := 141) hx hb dX5_family_234 rfl ?_
        refine lv_iload_n hx hb dX5_family_237 rfl (lv_at hl 1 rfl) ?_
        refine lv_iadd hx hb dX5_family_238 ?_
        refine lv_aload_n hx hb dX5_family_239 rfl (lv_at hl 0 rfl) ?_
        refine hm_get C M 6 (by decide) q2073 (v := .ref (b 6)) rfl dX5_family_240 ?_
        refine lv_bipush (v := 76) hx hb dX5_family_243 rfl ?_
        refine lv_iload_n hx hb dX5_family_245 rfl (lv_at hl 1 rfl) ?_
        refine lv_iadd hx hb dX5_family_246 ?_
        obtain ⟨g1, hf⟩ := hf
        refine hm_ald6 C M g1 dX5_family_247 ?_
        obtain ⟨g1, hf⟩ := hf
        refine hm_ast6 C M g1 dX5_family_248 (fun H locs M => ?_)
        refine lv_aload_n hx hb dX5_family_249 rfl (lv_at hl 0 rfl) ?_
        refine hm_get C M 6 (by decide) q2073 (v := .ref (b 6)) rfl dX5_family_250 ?_
        refine lv_sipush (v := 153) hx hb dX5_family_253 rfl ?_
        refine lv_iload_n hx hb dX5_family_256 rfl (lv_at hl 1 rfl) ?_
        refine lv_iadd hx hb dX5_family_257 ?_
        refine lv_aload_n hx hb dX5_family_258 rfl (lv_at hl 0 rfl) ?_
        refine hm_get C M 6 (by decide) q2073 (v := .ref (b 6)) rfl dX5_family_259 ?_
        refine lv_bipush (v := 88) hx hb dX5_family_262 rfl ?_
        refine lv_iload_n hx hb dX5_family_264 rfl (lv_at hl 1 rfl) ?_
        refine lv_iadd hx hb dX5_family_265 ?_
        obtain ⟨g1, hf⟩ := hf
        refine hm_ald6 C M g1 dX5_family_266 ?_
        obtain ⟨g1, hf⟩ := hf
        refine hm_ast6 C M g1 dX5_family_267 (fun H locs M => ?_)
        refine lv_iinc (v := v1_169 + 1) (lv' := [(1, .int (v1_169 + 1)), (0, .ref o)]) hx hb dX5_family_268 hl (k := 1) rfl rfl (by decide) rfl (fun ls hl => ?_)
        refine lv_goto (tgt := 169) hx hb dX5_family_271 (by decide) ?_
        exact ih169 (v1_169 + 1) (hm_sA (hm_sA (hm_sA (hm_sA (hm_sA σ169 6 (105 + v1_169) (hm_gA σ169 6 (15 + v1_169))) 6 (117 + v1_169) (hm_gA (hm_sA σ169 6 (105 + v1_169) (hm_gA σ169 6 (15 + v1_169))) 6 (39 + v1_169))) 6 (129 + v1_169) (hm_gA (hm_sA (hm_sA σ169 6 (105 + v1_169) (hm_gA σ169 6 (15 + v1_169))) 6 (117 + v1_169) (hm_gA (hm_sA σ169 6 (105 + v1_169) (hm_gA σ169 6 (15 + v1_169))) 6 (39 + v1_169))) 6 (64 + v1_169))) 6 (141 + v1_169) (hm_gA (hm_sA (hm_sA (hm_sA σ169 6 (105 + v1_169) (hm_gA σ169 6 (15 + v1_169))) 6 (117 + v1_169) (hm_gA (hm_sA σ169 6 (105 + v1_169) (hm_gA σ169 6 (15 + v1_169))) 6 (39 + v1_169))) 6 (129 + v1_169) (hm_gA (hm_sA (hm_sA σ169 6 (105 + v1_169) (hm_gA σ169 6 (15 + v1_169))) 6 (117 + v1_169) (hm_gA (hm_sA σ169 6 (105 + v1_169) (hm_gA σ169 6 (15 + v1_169))) 6 (39 + v1_169))) 6 (64 + v1_169))) 6 (76 + v1_169))) 6 (153 + v1_169) (hm_gA (hm_sA (hm_sA (hm_sA (hm_sA σ169 6 (105 + v1_169) (hm_gA σ169 6 (15 + v1_169))) 6 (117 + v1_169) (hm_gA (hm_sA σ169 6 (105 + v1_169) (hm_gA σ169 6 (15 + v1_169))) 6 (39 + v1_169))) 6 (129 + v1_169) (hm_gA (hm_sA (hm_sA σ169 6 (105 + v1_169) (hm_gA σ169 6 (15 + v1_169))) 6 (117 + v1_169) (hm_gA (hm_sA σ169 6 (105 + v1_169) (hm_gA σ169 6 (15 + v1_169))) 6 (39 + v1_169))) 6 (64 + v1_169))) 6 (141 + v1_169) (hm_gA (hm_sA (hm_sA (hm_sA σ169 6 (105 + v1_169) (hm_gA σ169 6 (15 + v1_169))) 6 (117 + v1_169) (hm_gA (hm_sA σ169 6 (105 + v1_169) (hm_gA σ169 6 (15 + v1_169))) 6 (39 + v1_169))) 6 (129 + v1_169) (hm_gA (hm_sA (hm_sA σ169 6 (105 + v1_169) (hm_gA σ169 6 (15 + v1_169))) 6 (117 + v1_169) (hm_gA (hm_sA σ169 6 (105 + v1_169) (hm_gA σ169 6 (15 + v1_169))) 6 (39 + v1_169))) 6 (64 + v1_169))) 6 (76 + v1_169))) 6 (88 + v1_169))) _ _ _ M (lv_sub hl [1, 0] rfl) hf
  have B117 : ∀ (n117 : Nat) (v1_117 : Int32) (σ117 : hm_S) (H : Heap) (locs : List Loc) (ls : Array Slot), hm_M D dA o b s.heap σ117 H locs → lv_has ls 2 [(0, .ref o), (1, .int v1_117)] → hw_family_b117  n117 v1_117 σ117 Q → W p l e (hb_R 6 129) s m args below meth c H locs 0 0 QQ (F0 m 117 ls []) := by
    intro n117
    induction n117 with
    | zero => intro v1_117 σ117 H locs ls M hl hf; exact hf.elim
    | succ n117 ih117 =>
      intro v1_117 σ117 H locs ls M hl hf
      refine lv_iload_n hx hb dX5_family_117 rfl (lv_at hl 1 rfl) ?_
      refine lv_bipush (v := 12) hx hb dX5_family_118 rfl ?_
      obtain ⟨hft, hff⟩ := hf
      refine lv_icmp_ge (tgt := 144) hx hb dX5_family_120 (by decide) (fun c1 => ?_) (fun c1 => ?_)
      · have hf := hft c1
        refine lv_aload_n hx hb dX5_family_144 rfl (lv_at hl 0 rfl) ?_
        refine hm_get C M 6 (by decide) q2073 (v := .ref (b 6)) rfl dX5_family_145 ?_
        refine lv_bipush (v := 100) hx hb dX5_family_148 rfl ?_
        refine lv_bipush (v := 100) hx hb dX5_family_150 rfl ?_
        obtain ⟨g1, hf⟩ := hf
        refine hm_ast6 C M g1 dX5_family_152 (fun H locs M => ?_)
        refine lv_aload_n hx hb dX5_family_153 rfl (lv_at hl 0 rfl) ?_
        refine hm_get C M 6 (by decide) q2073 (v := .ref (b 6)) rfl dX5_family_154 ?_
        refine lv_bipush (v := 104) hx hb dX5_family_157 rfl ?_
        refine lv_aload_n hx hb dX5_family_159 rfl (lv_at hl 0 rfl) ?_
        refine hm_get C M 6 (by decide) q2073 (v := .ref (b 6)) rfl dX5_family_160 ?_
        refine lv_bipush (v := 63) hx hb dX5_family_163 rfl ?_
        obtain ⟨g1, hf⟩ := hf
        refine hm_ald6 C M g1 dX5_family_165 ?_
        obtain ⟨g1, hf⟩ := hf
        refine hm_ast6 C M g1 dX5_family_166 (fun H locs M => ?_)
        refine lv_iconst (v := 0) hx hb dX5_family_167 rfl ?_
        refine lv_istore_n (lv' := [(1, .int 0), (0, .ref o)]) hx hb dX5_family_168 rfl hl (by decide) rfl (fun ls hl => ?_)
        obtain ⟨nn, hf⟩ := hf
        exact B169 nn 0 (hm_sA (hm_sA σ117 6 100 100) 6 104 (hm_gA (hm_sA σ117 6 100 100) 6 63)) _ _ _ M (lv_sub hl [1, 0] rfl) hf
      · have hf := hff c1
        refine lv_aload_n hx hb dX5_family_123 rfl (lv_at hl 0 rfl) ?_
        refine hm_get C M 9 (by decide) q2076 (v := .ref (b 9)) rfl dX5_family_124 ?_
        refine lv_iload_n hx hb dX5_family_127 rfl (lv_at hl 1 rfl) ?_
        refine lv_aload_n hx hb dX5_family_128 rfl (lv_at hl 0 rfl) ?_
        refine hm_get C M 9 (by decide) q2076 (v := .ref (b 9)) rfl dX5_family_129 ?_
        refine lv_bipush (v := 12) hx hb dX5_family_132 rfl ?_
        refine lv_iload_n hx hb dX5_family_134 rfl (lv_at hl 1 rfl) ?_
        refine lv_iadd hx hb dX5_family_135 ?_
        obtain ⟨g1, hf⟩ := hf
        refine hm_ald9 C M g1 dX5_family_136 ?_
        obtain ⟨g1, hf⟩ := hf
        refine hm_ast9 C M g1 dX5_family_137 (fun H locs M => ?_)
        refine lv_iinc (v := v1_117 + 1) (lv' := [(1, .int (v1_117 + 1)), (0, .ref o)]) hx hb dX5_family_138 hl (k := 1) rfl rfl (by decide) rfl (fun ls hl => ?_)
        refine lv_goto (tgt := 117) hx hb dX5_family_141 (by decide) ?_
        exact ih117 (v1_117 + 1) (hm_sL σ117 9 v1_117 (hm_gL σ117 9 (12 + v1_117))) _ _ _ M (lv_sub hl [1, 0] rfl) hf
  have B80 : ∀ (n80 : Nat) (v1_80 : Int32) (σ80 : hm_S) (H : Heap) (locs : List Loc) (ls : Array Slot), hm_M D dA o b s.heap σ80 H locs → lv_has ls 2 [(0, .ref o), (1, .int v1_80)] → hw_family_b80  n80 v1_80 σ80 Q → W p l e (hb_R 6 129) s m args below meth c H locs 0 0 QQ (F0 m 80 ls []) := by
    intro n80
    induction n80 with
    | zero => intro v1_80 σ80 H locs ls M hl hf; exact hf.elim
    | succ n80 ih80 =>
      intro v1_80 σ80 H locs ls M hl hf
      refine lv_iload_n hx hb dX5_family_80 rfl (lv_at hl 1 rfl) ?_
      refine lv_sipush (v := 346) hx hb dX5_family_81 rfl ?_
      obtain ⟨hft, hff⟩ := hf
      refine lv_icmp_ge (tgt := 115) hx hb dX5_family_84 (by decide) (fun c1 => ?_) (fun c1 => ?_)
      · have hf := hft c1
        refine lv_iconst (v := 0) hx hb dX5_family_115 rfl ?_
        refine lv_istore_n (lv' := [(1, .int 0), (0, .ref o)]) hx hb dX5_family_116 rfl hl (by decide) rfl (fun ls hl => ?_)
        obtain ⟨nn, hf⟩ := hf
        exact B117 nn 0 σ80 _ _ _ M (lv_sub hl [1, 0] rfl) hf
      · have hf := hff c1
        refine lv_aload_n hx hb dX5_family_87 rfl (lv_at hl 0 rfl) ?_
        refine hm_get C M 6 (by decide) q2073 (v := .ref (b 6)) rfl dX5_family_88 ?_
        refine lv_iload_n hx hb dX5_family_91 rfl (lv_at hl 1 rfl) ?_
        refine lv_iload_n hx hb dX5_family_92 rfl (lv_at hl 1 rfl) ?_
        refine lv_bipush (v := 100) hx hb dX5_family_93 rfl ?_
        obtain ⟨hft, hff⟩ := hf
        refine lv_icmp_ge (tgt := 107) hx hb dX5_family_95 (by decide) (fun c1 => ?_) (fun c1 => ?_)
        · have hf := hft c1
          refine lv_iconst (v := 0) hx hb dX5_family_107 rfl ?_
          obtain ⟨g1, hf⟩ := hf
          refine hm_ast6 C M g1 dX5_family_108 (fun H locs M => ?_)
          refine lv_iinc (v := v1_80 + 1) (lv' := [(1, .int (v1_80 + 1)), (0, .ref o)]) hx hb dX5_family_109 hl (k := 1) rfl rfl (by decide) rfl (fun ls hl => ?_)
          refine lv_goto (tgt := 80) hx hb dX5_family_112 (by decide) ?_
          exact ih80 (v1_80 + 1) (hm_sA σ80 6 v1_80 0) _ _ _ M (lv_sub hl [1, 0] rfl) hf
        · have hf := hff c1
          refine lv_aload_n hx hb dX5_family_98 rfl (lv_at hl 0 rfl) ?_
          refine hm_get C M 7 (by decide) q2074 (v := .ref (b 7)) rfl dX5_family_99 ?_
          refine lv_iload_n hx hb dX5_family_102 rfl (lv_at hl 1 rfl) ?_
          obtain ⟨g1, hf⟩ := hf
          refine hm_ald7 C M g1 dX5_family_103 ?_
          refine lv_goto (tgt := 108) hx hb dX5_family_104 (by decide) ?_
          obtain ⟨g1, hf⟩ := hf
          refine hm_ast6 C M g1 dX5_family_108 (fun H locs M => ?_)
          refine lv_iinc (v := v1_80 + 1) (lv' := [(1, .int (v1_80 + 1)), (0, .ref o)]) hx hb dX5_family_109 hl (k := 1) rfl rfl (by decide) rfl (fun ls hl => ?_)
          refine lv_goto (tgt := 80) hx hb dX5_family_112 (by decide) ?_
          exact ih80 (v1_80 + 1) (hm_sA σ80 6 v1_80 (hm_gA σ80 7 v1_80)) _ _ _ M (lv_sub hl [1, 0] rfl) hf
  have B35 : ∀ (n35 : Nat)  (σ35 : hm_S) (H : Heap) (locs : List Loc) (ls : Array Slot), hm_M D dA o b s.heap σ35 H locs → lv_has ls 2 [(0, .ref o)] → hw_family_b35  n35  σ35 Q → W p l e (hb_R 6 129) s m args below meth c H locs 0 0 QQ (F0 m 35 ls []) := by
    intro n35
    induction n35 with
    | zero => intro  σ35 H locs ls M hl hf; exact hf.elim
    | succ n35 ih35 =>
      intro  σ35 H locs ls M hl hf
      refine lv_aload_n hx hb dX5_family_35 rfl (lv_at hl 0 rfl) ?_
      refine hm_get C M 11 (by decide) q2078 (v := .int (hm_gI σ35 11)) rfl dX5_family_36 ?_
      obtain ⟨hft, hff⟩ := hf
      refine lv_if_eq (tgt := 78) hx hb dX5_family_39 (by decide) (fun c1 => ?_) (fun c1 => ?_)
      · have hf := hft c1
        refine lv_iconst (v := 0) hx hb dX5_family_78 rfl ?_
        refine lv_istore_n (lv' := [(1, .int 0), (0, .ref o)]) hx hb dX5_family_79 rfl hl (by decide) rfl (fun ls hl => ?_)
        obtain ⟨nn, hf⟩ := hf
        exact B80 nn 0 σ35 _ _ _ M (lv_sub hl [1, 0] rfl) hf
      · have hf := hff c1
        refine lv_aload_n hx hb dX5_family_42 rfl (lv_at hl 0 rfl) ?_
        refine hm_ci C M hl.1 (As := []) (rest := []) (hk_readLine l D dA o b hB  σ35 hf) (n := 0) q2248 q2250 qs52 q140 q2251 (by decide +kernel) rfl ⟨Nat.le_of_ble_eq_true rfl, Nat.le_of_ble_eq_true rfl⟩ rfl (Nat.le_of_ble_eq_true rfl) dX5_family_43 (fun r_43 σ_43 H locs hf M => ?_)
        obtain ⟨hft, hff⟩ := hf
        refine lv_if_eq (tgt := 58) hx hb dX5_family_46 (by decide) (fun c1 => ?_) (fun c1 => ?_)
        · have hf := hft c1
          refine lv_iconst (v := (-1)) hx hb dX5_family_58 rfl ?_
          refine lv_aload_n hx hb dX5_family_59 rfl (lv_at hl 0 rfl) ?_
          refine hm_get C M 16 (by decide) q2083 (v := .int (hm_gI σ_43 16)) rfl dX5_family_60 ?_
          refine lv_isub hx hb dX5_family_63 ?_
          exact hret _ _ _ _ _ _ dX5_family_64 M hf
        · have hf := hff c1
          refine lv_aload_n hx hb dX5_family_49 rfl (lv_at hl 0 rfl) ?_
          refine lv_bipush (v := 59) hx hb dX5_family_50 rfl ?_
          refine hm_ci C M hl.1 (As := [.int 59]) (rest := []) (hk_sign l D dA o b hB 59 σ_43 hf) (n := 1) q2317 q2319 qs67 q140 q2320 (by decide +kernel) rfl ⟨Nat.le_of_ble_eq_true rfl, Nat.le_of_ble_eq_true rfl⟩ rfl (Nat.le_of_ble_eq_true rfl) dX5_family_52 (fun r_52 σ_52 H locs hf M => ?_)
          obtain ⟨hft, hff⟩ := hf
          refine lv_if_ne (tgt := 65) hx hb dX5_family_55 (by decide) (fun c1 => ?_) (fun c1 => ?_)
          · have hf := hft c1
            refine lv_aload_n hx hb dX5_family_65 rfl (lv_at hl 0 rfl) ?_
            refine lv_dup hx hb dX5_family_66 rfl ?_
            refine hm_get C M 19 (by decide) q2086 (v := .int (hm_gI σ_52 19)) rfl dX5_family_67 ?_
            refine lv_iconst (v := 1) hx hb dX5_family_70 rfl ?_
            refine lv_iadd hx hb dX5_family_71 ?_
            refine hm_put19 C M q2086 dX5_family_72 (fun H locs M => ?_)
            refine lv_goto (tgt := 35) hx hb dX5_family_75 (by decide) ?_
            exact ih35  (hm_sI σ_52 19 ((hm_gI σ_52 19) + 1)) _ _ _ M (lv_sub hl [0] rfl) hf
          · have hf := hff c1
            refine lv_iconst (v := (-1)) hx hb dX5_family_58 rfl ?_
            refine lv_aload_n hx hb dX5_family_59 rfl (lv_at hl 0 rfl) ?_
            refine hm_get C M 16 (by decide) q2083 (v := .int (hm_gI σ_52 16)) rfl dX5_family_60 ?_
            refine lv_isub hx hb dX5_family_63 ?_
            exact hret _ _ _ _ _ _ dX5_family_64 M hf
  refine lv_aload_n hx hb dX5_family_0 rfl (lv_at hl 0 rfl) ?_
  refine lv_iconst (v := 0) hx hb dX5_family_1 rfl ?_
  refine hm_put0 C M q2067 dX5_family_2 (fun H locs M => ?_)
  refine lv_aload_n hx hb dX5_family_5 rfl (lv_at hl 0 rfl) ?_
  refine lv_sipush (v := 900) hx hb dX5_family_6 rfl ?_
  refine hm_cv C M hl.1 (As := [.int 900]) (rest := []) (hk_taken l D dA o b hB 900 (hm_sI σ 0 0) hf) (n := 1) q2230 q2232 qs49 q140 q2233 (by decide +kernel) rfl ⟨Nat.le_of_ble_eq_true rfl, Nat.le_of_ble_eq_true rfl⟩ rfl (Nat.le_of_ble_eq_true rfl) dX5_family_9 (fun σ_9 H locs hf M => ?_)
  refine lv_aload_n hx hb dX5_family_12 rfl (lv_at hl 0 rfl) ?_
  refine lv_iconst (v := 0) hx hb dX5_family_13 rfl ?_
  refine hm_put15 C M q2082 dX5_family_14 (fun H locs M => ?_)
  refine lv_aload_n hx hb dX5_family_17 rfl (lv_at hl 0 rfl) ?_
  refine lv_iconst (v := 0) hx hb dX5_family_18 rfl ?_
  refine hm_put19 C M q2086 dX5_family_19 (fun H locs M => ?_)
  refine lv_aload_n hx hb dX5_family_22 rfl (lv_at hl 0 rfl) ?_
  refine lv_iconst (v := 0) hx hb dX5_family_23 rfl ?_
  refine hm_put20 C M hb_B0 q2087 dX5_family_24 (fun H locs M => ?_)
  refine lv_aload_n hx hb dX5_family_27 rfl (lv_at hl 0 rfl) ?_
  refine hm_cv C M hl.1 (As := []) (rest := []) (hk_clears l D dA o b hB  (hm_sI (hm_sI (hm_sI σ_9 15 0) 19 0) 20 0) hf) (n := 0) q2063 q2065 qs48 q140 q2066 (by decide +kernel) rfl ⟨Nat.le_of_ble_eq_true rfl, Nat.le_of_ble_eq_true rfl⟩ rfl (Nat.le_of_ble_eq_true rfl) dX5_family_28 (fun σ_28 H locs hf M => ?_)
  refine lv_aload_n hx hb dX5_family_31 rfl (lv_at hl 0 rfl) ?_
  refine hm_cv C M hl.1 (As := []) (rest := []) (hk_next l D dA o b hB  σ_28 hf) (n := 0) q2234 q2236 qs50 q140 q2237 (by decide +kernel) rfl ⟨Nat.le_of_ble_eq_true rfl, Nat.le_of_ble_eq_true rfl⟩ rfl (Nat.le_of_ble_eq_true rfl) dX5_family_32 (fun σ_32 H locs hf M => ?_)
  obtain ⟨nn, hf⟩ := hf
  exact B35 nn  σ_32 _ _ _ M (lv_sub hl [0] rfl) hf
def hw_fault  (σ : hm_S) (Q : Int32 → hm_S → Prop) : Prop := Q (hm_gI (hm_sI σ 0 0) 15) (hm_sI σ 0 0)
set_option maxHeartbeats 4000000 in
set_option maxRecDepth 100000 in
theorem hk_fault (l : Launch) (D : va_G) (dA : Nat → ClassId) (o : Nat) (b : Nat → Nat) (hB : hm_D dA o b)  (σ : hm_S) {Q : Int32 → hm_S → Prop} (hf : hw_fault  σ Q) : Met l yX5_fault (ws_ yX5_fault cX5_fault 1 (some .int)) (hb_R 0 0) (va_Pc [.ref o] (hm_U D dA o b σ)) (va_Qi Q (hm_U D dA o b) (hm_A o b)) 0 0 (hm_A o b) := by
  refine hm_Mi hB (LV := [(0, .ref o)]) (by decide) rfl (Nat.le_of_ble_eq_true rfl) (fun p e s m args below meth c ls QQ C M hl hret => ?_)
  have hx := C.1.1
  have hb := C.1.2.1
  refine lv_aload_n hx hb dX5_fault_0 rfl (lv_at hl 0 rfl) ?_
  refine lv_iconst (v := 0) hx hb dX5_fault_1 rfl ?_
  refine hm_put0 C M q2067 dX5_fault_2 (fun H locs M => ?_)
  refine lv_aload_n hx hb dX5_fault_5 rfl (lv_at hl 0 rfl) ?_
  refine hm_get C M 15 (by decide) q2082 (v := .int (hm_gI (hm_sI σ 0 0) 15)) rfl dX5_fault_6 ?_
  exact hret _ _ _ _ _ _ dX5_fault_9 M hf
def hw_childrenOf_b4 : Nat → Int32 → Int32 → Int32 → hm_S → (Int32 → hm_S → Prop) → Prop
  | 0, _, _, _, _, _ => False
  | n4 + 1, v1_4, v2_4, v3_4, σ4, Q => vp_in 0 346 ∧ (((hm_gA σ4 6 0) ≤ v3_4 → Q v2_4 σ4) ∧ (¬ (hm_gA σ4 6 0) ≤ v3_4 → vp_in (27 + v3_4) 346 ∧ ((((hm_gA σ4 6 (27 + v3_4)) &&& v1_4) = 0 → hw_childrenOf_b4  n4 v1_4 (v2_4 ||| 0) (v3_4 + 1) σ4 Q) ∧ (¬ ((hm_gA σ4 6 (27 + v3_4)) &&& v1_4) = 0 → hw_childrenOf_b4  n4 v1_4 (v2_4 ||| ((1 : Int32) <<< (v3_4 &&& 31))) (v3_4 + 1) σ4 Q))))
def hw_childrenOf (a1 : Int32) (σ : hm_S) (Q : Int32 → hm_S → Prop) : Prop := ∃ n, hw_childrenOf_b4  n a1 0 0 σ Q
set_option maxHeartbeats 4000000 in
set_option maxRecDepth 100000 in
theorem hk_childrenOf (l : Launch) (D : va_G) (dA : Nat → ClassId) (o : Nat) (b : Nat → Nat) (hB : hm_D dA o b) (a1 : Int32) (σ : hm_S) {Q : Int32 → hm_S → Prop} (hf : hw_childrenOf a1 σ Q) : Met l yX5_childrenOf (ws_ yX5_childrenOf cX5_childrenOf 4 (some .int)) (hb_R 0 0) (va_Pc [.ref o, .int a1] (hm_U D dA o b σ)) (va_Qi Q (hm_U D dA o b) (hm_A o b)) 0 0 (hm_A o b) := by
  refine hm_Mi hB (LV := [(0, .ref o), (1, .int a1)]) (by decide) rfl (Nat.le_of_ble_eq_true rfl) (fun p e s m args below meth c ls QQ C M hl hret => ?_)
  have hx := C.1.1
  have hb := C.1.2.1
  have B4 : ∀ (n4 : Nat) (v1_4 : Int32) (v2_4 : Int32) (v3_4 : Int32) (σ4 : hm_S) (H : Heap) (locs : List Loc) (ls : Array Slot), hm_M D dA o b s.heap σ4 H locs → lv_has ls 4 [(0, .ref o), (1, .int v1_4), (2, .int v2_4), (3, .int v3_4)] → hw_childrenOf_b4  n4 v1_4 v2_4 v3_4 σ4 Q → W p l e (hb_R 0 0) s m args below meth c H locs 0 0 QQ (F0 m 4 ls []) := by
    intro n4
    induction n4 with
    | zero => intro v1_4 v2_4 v3_4 σ4 H locs ls M hl hf; exact hf.elim
    | succ n4 ih4 =>
      intro v1_4 v2_4 v3_4 σ4 H locs ls M hl hf
      refine lv_iload_n hx hb dX5_childrenOf_4 rfl (lv_at hl 3 rfl) ?_
      refine lv_aload_n hx hb dX5_childrenOf_5 rfl (lv_at hl 0 rfl) ?_
      refine hm_get C M 6 (by decide) q2073 (v := .ref (b 6)) rfl dX5_childrenOf_6 ?_
      refine lv_iconst (v := 0) hx hb dX5_childrenOf_9 rfl ?_
      obtain ⟨g1, hf⟩ := hf
      refine hm_ald6 C M g1 dX5_childrenOf_10 ?_
      obtain ⟨hft, hff⟩ := hf
      refine lv_icmp_ge (tgt := 44) hx hb dX5_childrenOf_11 (by decide) (fun c1 => ?_) (fun c1 => ?_)
      · have hf := hft c1
        refine lv_iload_n hx hb dX5_childrenOf_44 rfl (lv_at hl 2 rfl) ?_
        exact hret _ _ _ _ _ _ dX5_childrenOf_45 M hf
      · have hf := hff c1
        refine lv_iload_n hx hb dX5_childrenOf_14 rfl (lv_at hl 2 rfl) ?_
        refine lv_aload_n hx hb dX5_childrenOf_15 rfl (lv_at hl 0 rfl) ?_
        refine hm_get C M 6 (by decide) q2073 (v := .ref (b 6)) rfl dX5_childrenOf_16 ?_
        refine lv_bipush (v := 27) hx hb dX5_childrenOf_19 rfl ?_
        refine lv_iload_n hx hb dX5_childrenOf_21 rfl (lv_at hl 3 rfl) ?_
        refine lv_iadd hx hb dX5_childrenOf_22 ?_
        obtain ⟨g1, hf⟩ := hf
        refine hm_ald6 C M g1 dX5_childrenOf_23 ?_
        refine lv_iload_n hx hb dX5_childrenOf_24 rfl (lv_at hl 1 rfl) ?_
        refine lv_iand hx hb dX5_childrenOf_25 ?_
        obtain ⟨hft, hff⟩ := hf
        refine lv_if_eq (tgt := 35) hx hb dX5_childrenOf_26 (by decide) (fun c1 => ?_) (fun c1 => ?_)
        · have hf := hft c1
          refine lv_iconst (v := 0) hx hb dX5_childrenOf_35 rfl ?_
          refine lv_ior hx hb dX5_childrenOf_36 ?_
          refine lv_istore_n (lv' := [(2, .int (v2_4 ||| 0)), (0, .ref o), (1, .int v1_4), (3, .int v3_4)]) hx hb dX5_childrenOf_37 rfl hl (by decide) rfl (fun ls hl => ?_)
          refine lv_iinc (v := v3_4 + 1) (lv' := [(3, .int (v3_4 + 1)), (2, .int (v2_4 ||| 0)), (0, .ref o), (1, .int v1_4)]) hx hb dX5_childrenOf_38 hl (k := 3) rfl rfl (by decide) rfl (fun ls hl => ?_)
          refine lv_goto (tgt := 4) hx hb dX5_childrenOf_41 (by decide) ?_
          exact ih4 v1_4 (v2_4 ||| 0) (v3_4 + 1) σ4 _ _ _ M (lv_sub hl [2, 3, 1, 0] rfl) hf
        · have hf := hff c1
          refine lv_iconst (v := 1) hx hb dX5_childrenOf_29 rfl ?_
          refine lv_iload_n hx hb dX5_childrenOf_30 rfl (lv_at hl 3 rfl) ?_
          refine lv_ishl hx hb dX5_childrenOf_31 ?_
          refine lv_goto (tgt := 36) hx hb dX5_childrenOf_32 (by decide) ?_
          refine lv_ior hx hb dX5_childrenOf_36 ?_
          refine lv_istore_n (lv' := [(2, .int (v2_4 ||| ((1 : Int32) <<< (v3_4 &&& 31)))), (0, .ref o), (1, .int v1_4), (3, .int v3_4)]) hx hb dX5_childrenOf_37 rfl hl (by decide) rfl (fun ls hl => ?_)
          refine lv_iinc (v := v3_4 + 1) (lv' := [(3, .int (v3_4 + 1)), (2, .int (v2_4 ||| ((1 : Int32) <<< (v3_4 &&& 31)))), (0, .ref o), (1, .int v1_4)]) hx hb dX5_childrenOf_38 hl (k := 3) rfl rfl (by decide) rfl (fun ls hl => ?_)
          refine lv_goto (tgt := 4) hx hb dX5_childrenOf_41 (by decide) ?_
          exact ih4 v1_4 (v2_4 ||| ((1 : Int32) <<< (v3_4 &&& 31))) (v3_4 + 1) σ4 _ _ _ M (lv_sub hl [2, 3, 1, 0] rfl) hf
  refine lv_iconst (v := 0) hx hb dX5_childrenOf_0 rfl ?_
  refine lv_istore_n (lv' := [(2, .int 0), (0, .ref o), (1, .int a1)]) hx hb dX5_childrenOf_1 rfl hl (by decide) rfl (fun ls hl => ?_)
  refine lv_iconst (v := 0) hx hb dX5_childrenOf_2 rfl ?_
  refine lv_istore_n (lv' := [(3, .int 0), (2, .int 0), (0, .ref o), (1, .int a1)]) hx hb dX5_childrenOf_3 rfl hl (by decide) rfl (fun ls hl => ?_)
  obtain ⟨nn, hf⟩ := hf
  exact B4 nn a1 0 0 σ _ _ _ M (lv_sub hl [2, 3, 1, 0] rfl) hf
def hw_isLiving (a1 : Int32) (σ : hm_S) (Q : Int32 → hm_S → Prop) : Prop := vp_in 101 346 ∧ (hw_bitOf (hm_gA σ 6 101) a1 σ (fun r_8 σ_8 => ((¬ r_8 = 0 → Q 0 σ_8) ∧ (r_8 = 0 → Q 1 σ_8))))
set_option maxHeartbeats 4000000 in
set_option maxRecDepth 100000 in
theorem hk_isLiving (l : Launch) (D : va_G) (dA : Nat → ClassId) (o : Nat) (b : Nat → Nat) (hB : hm_D dA o b) (a1 : Int32) (σ : hm_S) {Q : Int32 → hm_S → Prop} (hf : hw_isLiving a1 σ Q) : Met l yX5_isLiving (ws_ yX5_isLiving cX5_isLiving 2 (some .boolean)) (hb_R 1 21) (va_Pc [.ref o, .int a1] (hm_U D dA o b σ)) (va_Qi Q (hm_U D dA o b) (hm_A o b)) 0 0 (hm_A o b) := by
  refine hm_Mz hB (LV := [(0, .ref o), (1, .int a1)]) (by decide) rfl (Nat.le_of_ble_eq_true rfl) (fun p e s m args below meth c ls QQ C M hl hret => ?_)
  have hx := C.1.1
  have hb := C.1.2.1
  refine lv_aload_n hx hb dX5_isLiving_0 rfl (lv_at hl 0 rfl) ?_
  refine hm_get C M 6 (by decide) q2073 (v := .ref (b 6)) rfl dX5_isLiving_1 ?_
  refine lv_bipush (v := 101) hx hb dX5_isLiving_4 rfl ?_
  obtain ⟨g1, hf⟩ := hf
  refine hm_ald6 C M g1 dX5_isLiving_6 ?_
  refine lv_iload_n hx hb dX5_isLiving_7 rfl (lv_at hl 1 rfl) ?_
  refine hm_csi C M hl.1 (As := [.int (hm_gA σ 6 101), .int a1]) (rest := []) (hk_bitOf l D dA o b hB (hm_gA σ 6 101) a1 σ hf) (n := 2) q2294 q2295 q140 q2296 (by decide +kernel) rfl ⟨Nat.le_of_ble_eq_true rfl, Nat.le_of_ble_eq_true rfl⟩ rfl (Nat.le_of_ble_eq_true rfl) dX5_isLiving_8 (fun r_8 σ_8 H locs hf M => ?_)
  obtain ⟨hft, hff⟩ := hf
  refine lv_if_ne (tgt := 18) hx hb dX5_isLiving_11 (by decide) (fun c1 => ?_) (fun c1 => ?_)
  · have hf := hft c1
    refine lv_iconst (v := 0) hx hb dX5_isLiving_18 rfl ?_
    exact hret _ _ _ _ _ _ dX5_isLiving_19 M hb_B0 hf
  · have hf := hff c1
    refine lv_iconst (v := 1) hx hb dX5_isLiving_14 rfl ?_
    refine lv_goto (tgt := 19) hx hb dX5_isLiving_15 (by decide) ?_
    exact hret _ _ _ _ _ _ dX5_isLiving_19 M hb_B1 hf
def hw_isPerson (a1 : Int32) (σ : hm_S) (Q : Int32 → hm_S → Prop) : Prop := vp_in 0 346 ∧ (hw_isIn a1 0 ((hm_gA σ 6 0) - 1) σ (fun r_10 σ_10 => (hb_B r_10 ∧ Q r_10 σ_10)))
set_option maxHeartbeats 4000000 in
set_option maxRecDepth 100000 in
theorem hk_isPerson (l : Launch) (D : va_G) (dA : Nat → ClassId) (o : Nat) (b : Nat → Nat) (hB : hm_D dA o b) (a1 : Int32) (σ : hm_S) {Q : Int32 → hm_S → Prop} (hf : hw_isPerson a1 σ Q) : Met l yX5_isPerson (ws_ yX5_isPerson cX5_isPerson 2 (some .boolean)) (hb_R 1 22) (va_Pc [.ref o, .int a1] (hm_U D dA o b σ)) (va_Qi Q (hm_U D dA o b) (hm_A o b)) 0 0 (hm_A o b) := by
  refine hm_Mz hB (LV := [(0, .ref o), (1, .int a1)]) (by decide) rfl (Nat.le_of_ble_eq_true rfl) (fun p e s m args below meth c ls QQ C M hl hret => ?_)
  have hx := C.1.1
  have hb := C.1.2.1
  refine lv_iload_n hx hb dX5_isPerson_0 rfl (lv_at hl 1 rfl) ?_
  refine lv_iconst (v := 0) hx hb dX5_isPerson_1 rfl ?_
  refine lv_aload_n hx hb dX5_isPerson_2 rfl (lv_at hl 0 rfl) ?_
  refine hm_get C M 6 (by decide) q2073 (v := .ref (b 6)) rfl dX5_isPerson_3 ?_
  refine lv_iconst (v := 0) hx hb dX5_isPerson_6 rfl ?_
  obtain ⟨g1, hf⟩ := hf
  refine hm_ald6 C M g1 dX5_isPerson_7 ?_
  refine lv_iconst (v := 1) hx hb dX5_isPerson_8 rfl ?_
  refine lv_isub hx hb dX5_isPerson_9 ?_
  refine hm_csi C M hl.1 (As := [.int a1, .int 0, .int ((hm_gA σ 6 0) - 1)]) (rest := []) (hk_isIn l D dA o b hB a1 0 ((hm_gA σ 6 0) - 1) σ hf) (n := 3) q2280 q2281 q140 q2282 (by decide +kernel) rfl ⟨Nat.le_of_ble_eq_true rfl, Nat.le_of_ble_eq_true rfl⟩ rfl (Nat.le_of_ble_eq_true rfl) dX5_isPerson_10 (fun r_10 σ_10 H locs hf M => ?_)
  exact hret _ _ _ _ _ _ dX5_isPerson_13 M hf.1 hf.2
def hw_issueOf_b10 : Nat → Int32 → Int32 → hm_S → (Int32 → hm_S → Prop) → Prop
  | 0, _, _, _, _ => False
  | n10 + 1, v2_10, v3_10, σ10, Q => (v3_10 = 0 → Q v2_10 σ10) ∧ (¬ v3_10 = 0 → hw_childrenOf v3_10 σ10 (fun r_16 σ_16 => (hw_issueOf_b10  n10 (v2_10 ||| (r_16 &&& (v2_10 ^^^ (-1)))) (r_16 &&& (v2_10 ^^^ (-1))) σ_16 Q)))
def hw_issueOf (a1 : Int32) (σ : hm_S) (Q : Int32 → hm_S → Prop) : Prop := hw_childrenOf ((1 : Int32) <<< (a1 &&& 31)) σ (fun r_4 σ_4 => (∃ n, hw_issueOf_b10  n r_4 r_4 σ_4 Q))
set_option maxHeartbeats 4000000 in
set_option maxRecDepth 100000 in
theorem hk_issueOf (l : Launch) (D : va_G) (dA : Nat → ClassId) (o : Nat) (b : Nat → Nat) (hB : hm_D dA o b) (a1 : Int32) (σ : hm_S) {Q : Int32 → hm_S → Prop} (hf : hw_issueOf a1 σ Q) : Met l yX5_issueOf (ws_ yX5_issueOf cX5_issueOf 4 (some .int)) (hb_R 1 23) (va_Pc [.ref o, .int a1] (hm_U D dA o b σ)) (va_Qi Q (hm_U D dA o b) (hm_A o b)) 0 0 (hm_A o b) := by
  refine hm_Mi hB (LV := [(0, .ref o), (1, .int a1)]) (by decide) rfl (Nat.le_of_ble_eq_true rfl) (fun p e s m args below meth c ls QQ C M hl hret => ?_)
  have hx := C.1.1
  have hb := C.1.2.1
  have B10 : ∀ (n10 : Nat) (v2_10 : Int32) (v3_10 : Int32) (σ10 : hm_S) (H : Heap) (locs : List Loc) (ls : Array Slot), hm_M D dA o b s.heap σ10 H locs → lv_has ls 4 [(0, .ref o), (2, .int v2_10), (3, .int v3_10)] → hw_issueOf_b10  n10 v2_10 v3_10 σ10 Q → W p l e (hb_R 1 23) s m args below meth c H locs 0 0 QQ (F0 m 10 ls []) := by
    intro n10
    induction n10 with
    | zero => intro v2_10 v3_10 σ10 H locs ls M hl hf; exact hf.elim
    | succ n10 ih10 =>
      intro v2_10 v3_10 σ10 H locs ls M hl hf
      refine lv_iload_n hx hb dX5_issueOf_10 rfl (lv_at hl 2 rfl) ?_
      obtain ⟨hft, hff⟩ := hf
      refine lv_if_eq (tgt := 31) hx hb dX5_issueOf_11 (by decide) (fun c1 => ?_) (fun c1 => ?_)
      · have hf := hft c1
        refine lv_iload_n hx hb dX5_issueOf_31 rfl (lv_at hl 1 rfl) ?_
        exact hret _ _ _ _ _ _ dX5_issueOf_32 M hf
      · have hf := hff c1
        refine lv_aload_n hx hb dX5_issueOf_14 rfl (lv_at hl 0 rfl) ?_
        refine lv_iload_n hx hb dX5_issueOf_15 rfl (lv_at hl 2 rfl) ?_
        refine hm_ci C M hl.1 (As := [.int v3_10]) (rest := []) (hk_childrenOf l D dA o b hB v3_10 σ10 hf) (n := 1) q2345 q2347 qs72 q140 q2348 (by decide +kernel) rfl ⟨Nat.le_of_ble_eq_true rfl, Nat.le_of_ble_eq_true rfl⟩ rfl (Nat.le_of_ble_eq_true rfl) dX5_issueOf_16 (fun r_16 σ_16 H locs hf M => ?_)
        refine lv_iload_n hx hb dX5_issueOf_19 rfl (lv_at hl 1 rfl) ?_
        refine lv_iconst (v := (-1)) hx hb dX5_issueOf_20 rfl ?_
        refine lv_ixor hx hb dX5_issueOf_21 ?_
        refine lv_iand hx hb dX5_issueOf_22 ?_
        refine lv_istore_n (lv' := [(3, .int (r_16 &&& (v2_10 ^^^ (-1)))), (0, .ref o), (2, .int v2_10)]) hx hb dX5_issueOf_23 rfl hl (by decide) rfl (fun ls hl => ?_)
        refine lv_iload_n hx hb dX5_issueOf_24 rfl (lv_at hl 2 rfl) ?_
        refine lv_iload_n hx hb dX5_issueOf_25 rfl (lv_at hl 0 rfl) ?_
        refine lv_ior hx hb dX5_issueOf_26 ?_
        refine lv_istore_n (lv' := [(2, .int (v2_10 ||| (r_16 &&& (v2_10 ^^^ (-1))))), (3, .int (r_16 &&& (v2_10 ^^^ (-1)))), (0, .ref o)]) hx hb dX5_issueOf_27 rfl hl (by decide) rfl (fun ls hl => ?_)
        refine lv_goto (tgt := 10) hx hb dX5_issueOf_28 (by decide) ?_
        exact ih10 (v2_10 ||| (r_16 &&& (v2_10 ^^^ (-1)))) (r_16 &&& (v2_10 ^^^ (-1))) σ_16 _ _ _ M (lv_sub hl [2, 0, 1] rfl) hf
  refine lv_aload_n hx hb dX5_issueOf_0 rfl (lv_at hl 0 rfl) ?_
  refine lv_iconst (v := 1) hx hb dX5_issueOf_1 rfl ?_
  refine lv_iload_n hx hb dX5_issueOf_2 rfl (lv_at hl 1 rfl) ?_
  refine lv_ishl hx hb dX5_issueOf_3 ?_
  refine hm_ci C M hl.1 (As := [.int ((1 : Int32) <<< (a1 &&& 31))]) (rest := []) (hk_childrenOf l D dA o b hB ((1 : Int32) <<< (a1 &&& 31)) σ hf) (n := 1) q2345 q2347 qs72 q140 q2348 (by decide +kernel) rfl ⟨Nat.le_of_ble_eq_true rfl, Nat.le_of_ble_eq_true rfl⟩ rfl (Nat.le_of_ble_eq_true rfl) dX5_issueOf_4 (fun r_4 σ_4 H locs hf M => ?_)
  refine lv_istore_n (lv' := [(2, .int r_4), (0, .ref o), (1, .int a1)]) hx hb dX5_issueOf_7 rfl hl (by decide) rfl (fun ls hl => ?_)
  refine lv_iload_n hx hb dX5_issueOf_8 rfl (lv_at hl 0 rfl) ?_
  refine lv_istore_n (lv' := [(3, .int r_4), (2, .int r_4), (0, .ref o), (1, .int a1)]) hx hb dX5_issueOf_9 rfl hl (by decide) rfl (fun ls hl => ?_)
  obtain ⟨nn, hf⟩ := hf
  exact B10 nn r_4 r_4 σ_4 _ _ _ M (lv_sub hl [2, 1, 0] rfl) hf
def hw_living  (σ : hm_S) (Q : Int32 → hm_S → Prop) : Prop := vp_in 0 346 ∧ (vp_in 101 346 ∧ (Q ((((1 : Int32) <<< ((hm_gA σ 6 0) &&& 31)) - 1) &&& ((hm_gA σ 6 101) ^^^ (-1))) σ))
set_option maxHeartbeats 4000000 in
set_option maxRecDepth 100000 in
theorem hk_living (l : Launch) (D : va_G) (dA : Nat → ClassId) (o : Nat) (b : Nat → Nat) (hB : hm_D dA o b)  (σ : hm_S) {Q : Int32 → hm_S → Prop} (hf : hw_living  σ Q) : Met l yX5_living (ws_ yX5_living cX5_living 1 (some .int)) (hb_R 0 0) (va_Pc [.ref o] (hm_U D dA o b σ)) (va_Qi Q (hm_U D dA o b) (hm_A o b)) 0 0 (hm_A o b) := by
  refine hm_Mi hB (LV := [(0, .ref o)]) (by decide) rfl (Nat.le_of_ble_eq_true rfl) (fun p e s m args below meth c ls QQ C M hl hret => ?_)
  have hx := C.1.1
  have hb := C.1.2.1
  refine lv_iconst (v := 1) hx hb dX5_living_0 rfl ?_
  refine lv_aload_n hx hb dX5_living_1 rfl (lv_at hl 0 rfl) ?_
  refine hm_get C M 6 (by decide) q2073 (v := .ref (b 6)) rfl dX5_living_2 ?_
  refine lv_iconst (v := 0) hx hb dX5_living_5 rfl ?_
  obtain ⟨g1, hf⟩ := hf
  refine hm_ald6 C M g1 dX5_living_6 ?_
  refine lv_ishl hx hb dX5_living_7 ?_
  refine lv_iconst (v := 1) hx hb dX5_living_8 rfl ?_
  refine lv_isub hx hb dX5_living_9 ?_
  refine lv_aload_n hx hb dX5_living_10 rfl (lv_at hl 0 rfl) ?_
  refine hm_get C M 6 (by decide) q2073 (v := .ref (b 6)) rfl dX5_living_11 ?_
  refine lv_bipush (v := 101) hx hb dX5_living_14 rfl ?_
  obtain ⟨g1, hf⟩ := hf
  refine hm_ald6 C M g1 dX5_living_16 ?_
  refine lv_iconst (v := (-1)) hx hb dX5_living_17 rfl ?_
  refine lv_ixor hx hb dX5_living_18 ?_
  refine lv_iand hx hb dX5_living_19 ?_
  exact hret _ _ _ _ _ _ dX5_living_20 M hf
def hw_livingIssue (a1 : Int32) (σ : hm_S) (Q : Int32 → hm_S → Prop) : Prop := hw_issueOf a1 σ (fun r_2 σ_2 => (hw_living  σ_2 (fun r_6 σ_6 => (Q (r_2 &&& r_6) σ_6))))
set_option maxHeartbeats 4000000 in
set_option maxRecDepth 100000 in
theorem hk_livingIssue (l : Launch) (D : va_G) (dA : Nat → ClassId) (o : Nat) (b : Nat → Nat) (hB : hm_D dA o b) (a1 : Int32) (σ : hm_S) {Q : Int32 → hm_S → Prop} (hf : hw_livingIssue a1 σ Q) : Met l yX5_livingIssue (ws_ yX5_livingIssue cX5_livingIssue 2 (some .int)) (hb_R 2 46) (va_Pc [.ref o, .int a1] (hm_U D dA o b σ)) (va_Qi Q (hm_U D dA o b) (hm_A o b)) 0 0 (hm_A o b) := by
  refine hm_Mi hB (LV := [(0, .ref o), (1, .int a1)]) (by decide) rfl (Nat.le_of_ble_eq_true rfl) (fun p e s m args below meth c ls QQ C M hl hret => ?_)
  have hx := C.1.1
  have hb := C.1.2.1
  refine lv_aload_n hx hb dX5_livingIssue_0 rfl (lv_at hl 0 rfl) ?_
  refine lv_iload_n hx hb dX5_livingIssue_1 rfl (lv_at hl 1 rfl) ?_
  refine hm_ci C M hl.1 (As := [.int a1]) (rest := []) (hk_issueOf l D dA o b hB a1 σ hf) (n := 1) q2353 q2355 qs74 q140 q2356 (by decide +kernel) rfl ⟨Nat.le_of_ble_eq_true rfl, Nat.le_of_ble_eq_true rfl⟩ rfl (Nat.le_of_ble_eq_true rfl) dX5_livingIssue_2 (fun r_2 σ_2 H locs hf M => ?_)
  refine lv_aload_n hx hb dX5_livingIssue_5 rfl (lv_at hl 0 rfl) ?_
  refine hm_ci C M hl.1 (As := []) (rest := [.int r_2]) (hk_living l D dA o b hB  σ_2 hf) (n := 0) q2357 q2359 qs75 q140 q2360 (by decide +kernel) rfl ⟨Nat.le_of_ble_eq_true rfl, Nat.le_of_ble_eq_true rfl⟩ rfl (Nat.le_of_ble_eq_true rfl) dX5_livingIssue_6 (fun r_6 σ_6 H locs hf M => ?_)
  refine lv_iand hx hb dX5_livingIssue_9 ?_
  exact hret _ _ _ _ _ _ dX5_livingIssue_10 M hf
def hw_ofPerson_b5 : Nat → Int32 → Int32 → Int32 → Int32 → hm_S → (Int32 → hm_S → Prop) → Prop
  | 0, _, _, _, _, _, _ => False
  | n5 + 1, v1_5, v2_5, v3_5, v4_5, σ5, Q => vp_in 104 346 ∧ (((hm_gA σ5 6 104) ≤ v4_5 → Q v3_5 σ5) ∧ (¬ (hm_gA σ5 6 104) ≤ v4_5 → vp_in (v1_5 + v4_5) 346 ∧ ((¬ (hm_gA σ5 6 (v1_5 + v4_5)) = v2_5 → hw_ofPerson_b5  n5 v1_5 v2_5 (v3_5 + 0) (v4_5 + 1) σ5 Q) ∧ ((hm_gA σ5 6 (v1_5 + v4_5)) = v2_5 → hw_ofPerson_b5  n5 v1_5 v2_5 (v3_5 + 1) (v4_5 + 1) σ5 Q))))
def hw_ofPerson (a1 : Int32) (a2 : Int32) (σ : hm_S) (Q : Int32 → hm_S → Prop) : Prop := ∃ n, hw_ofPerson_b5  n a1 a2 0 0 σ Q
set_option maxHeartbeats 4000000 in
set_option maxRecDepth 100000 in
theorem hk_ofPerson (l : Launch) (D : va_G) (dA : Nat → ClassId) (o : Nat) (b : Nat → Nat) (hB : hm_D dA o b) (a1 : Int32) (a2 : Int32) (σ : hm_S) {Q : Int32 → hm_S → Prop} (hf : hw_ofPerson a1 a2 σ Q) : Met l yX5_ofPerson (ws_ yX5_ofPerson cX5_ofPerson 5 (some .int)) (hb_R 0 0) (va_Pc [.ref o, .int a1, .int a2] (hm_U D dA o b σ)) (va_Qi Q (hm_U D dA o b) (hm_A o b)) 0 0 (hm_A o b) := by
  refine hm_Mi hB (LV := [(0, .ref o), (1, .int a1), (2, .int a2)]) (by decide) rfl (Nat.le_of_ble_eq_true rfl) (fun p e s m args below meth c ls QQ C M hl hret => ?_)
  have hx := C.1.1
  have hb := C.1.2.1
  have B5 : ∀ (n5 : Nat) (v1_5 : Int32) (v2_5 : Int32) (v3_5 : Int32) (v4_5 : Int32) (σ5 : hm_S) (H : Heap) (locs : List Loc) (ls : Array Slot), hm_M D dA o b s.heap σ5 H locs → lv_has ls 5 [(0, .ref o), (1, .int v1_5), (2, .int v2_5), (3, .int v3_5), (4, .int v4_5)] → hw_ofPerson_b5  n5 v1_5 v2_5 v3_5 v4_5 σ5 Q → W p l e (hb_R 0 0) s m args below meth c H locs 0 0 QQ (F0 m 5 ls []) := by
    intro n5
    induction n5 with
    | zero => intro v1_5 v2_5 v3_5 v4_5 σ5 H locs ls M hl hf; exact hf.elim
    | succ n5 ih5 =>
      intro v1_5 v2_5 v3_5 v4_5 σ5 H locs ls M hl hf
      refine lv_iload hx hb dX5_ofPerson_5 (lv_at hl 4 rfl) ?_
      refine lv_aload_n hx hb dX5_ofPerson_7 rfl (lv_at hl 0 rfl) ?_
      refine hm_get C M 6 (by decide) q2073 (v := .ref (b 6)) rfl dX5_ofPerson_8 ?_
      refine lv_bipush (v := 104) hx hb dX5_ofPerson_11 rfl ?_
      obtain ⟨g1, hf⟩ := hf
      refine hm_ald6 C M g1 dX5_ofPerson_13 ?_
      obtain ⟨hft, hff⟩ := hf
      refine lv_icmp_ge (tgt := 44) hx hb dX5_ofPerson_14 (by decide) (fun c1 => ?_) (fun c1 => ?_)
      · have hf := hft c1
        refine lv_iload_n hx hb dX5_ofPerson_44 rfl (lv_at hl 3 rfl) ?_
        exact hret _ _ _ _ _ _ dX5_ofPerson_45 M hf
      · have hf := hff c1
        refine lv_iload_n hx hb dX5_ofPerson_17 rfl (lv_at hl 3 rfl) ?_
        refine lv_aload_n hx hb dX5_ofPerson_18 rfl (lv_at hl 0 rfl) ?_
        refine hm_get C M 6 (by decide) q2073 (v := .ref (b 6)) rfl dX5_ofPerson_19 ?_
        refine lv_iload_n hx hb dX5_ofPerson_22 rfl (lv_at hl 1 rfl) ?_
        refine lv_iload hx hb dX5_ofPerson_23 (lv_at hl 4 rfl) ?_
        refine lv_iadd hx hb dX5_ofPerson_25 ?_
        obtain ⟨g1, hf⟩ := hf
        refine hm_ald6 C M g1 dX5_ofPerson_26 ?_
        refine lv_iload_n hx hb dX5_ofPerson_27 rfl (lv_at hl 2 rfl) ?_
        obtain ⟨hft, hff⟩ := hf
        refine lv_icmp_ne (tgt := 35) hx hb dX5_ofPerson_28 (by decide) (fun c1 => ?_) (fun c1 => ?_)
        · have hf := hft c1
          refine lv_iconst (v := 0) hx hb dX5_ofPerson_35 rfl ?_
          refine lv_iadd hx hb dX5_ofPerson_36 ?_
          refine lv_istore_n (lv' := [(3, .int (v3_5 + 0)), (0, .ref o), (1, .int v1_5), (2, .int v2_5), (4, .int v4_5)]) hx hb dX5_ofPerson_37 rfl hl (by decide) rfl (fun ls hl => ?_)
          refine lv_iinc (v := v4_5 + 1) (lv' := [(4, .int (v4_5 + 1)), (3, .int (v3_5 + 0)), (0, .ref o), (1, .int v1_5), (2, .int v2_5)]) hx hb dX5_ofPerson_38 hl (k := 4) rfl rfl (by decide) rfl (fun ls hl => ?_)
          refine lv_goto (tgt := 5) hx hb dX5_ofPerson_41 (by decide) ?_
          exact ih5 v1_5 v2_5 (v3_5 + 0) (v4_5 + 1) σ5 _ _ _ M (lv_sub hl [2, 3, 4, 1, 0] rfl) hf
        · have hf := hff c1
          refine lv_iconst (v := 1) hx hb dX5_ofPerson_31 rfl ?_
          refine lv_goto (tgt := 36) hx hb dX5_ofPerson_32 (by decide) ?_
          refine lv_iadd hx hb dX5_ofPerson_36 ?_
          refine lv_istore_n (lv' := [(3, .int (v3_5 + 1)), (0, .ref o), (1, .int v1_5), (2, .int v2_5), (4, .int v4_5)]) hx hb dX5_ofPerson_37 rfl hl (by decide) rfl (fun ls hl => ?_)
          refine lv_iinc (v := v4_5 + 1) (lv' := [(4, .int (v4_5 + 1)), (3, .int (v3_5 + 1)), (0, .ref o), (1, .int v1_5), (2, .int v2_5)]) hx hb dX5_ofPerson_38 hl (k := 4) rfl rfl (by decide) rfl (fun ls hl => ?_)
          refine lv_goto (tgt := 5) hx hb dX5_ofPerson_41 (by decide) ?_
          exact ih5 v1_5 v2_5 (v3_5 + 1) (v4_5 + 1) σ5 _ _ _ M (lv_sub hl [2, 3, 4, 1, 0] rfl) hf
  refine lv_iconst (v := 0) hx hb dX5_ofPerson_0 rfl ?_
  refine lv_istore_n (lv' := [(3, .int 0), (0, .ref o), (1, .int a1), (2, .int a2)]) hx hb dX5_ofPerson_1 rfl hl (by decide) rfl (fun ls hl => ?_)
  refine lv_iconst (v := 0) hx hb dX5_ofPerson_2 rfl ?_
  refine lv_istore (lv' := [(4, .int 0), (3, .int 0), (0, .ref o), (1, .int a1), (2, .int a2)]) hx hb dX5_ofPerson_3 hl (by decide) rfl (fun ls hl => ?_)
  obtain ⟨nn, hf⟩ := hf
  exact B5 nn a1 a2 0 0 σ _ _ _ M (lv_sub hl [2, 3, 4, 1, 0] rfl) hf
def hw_throwsIf (a1 : Int32) (σ : hm_S) (Q : Int32 → hm_S → Prop) : Prop := (a1 = 0 → hb_B a1 ∧ Q a1 (hm_sI σ 0 0)) ∧ (¬ a1 = 0 → hb_B a1 ∧ Q a1 (hm_sI σ 0 1))
set_option maxHeartbeats 4000000 in
set_option maxRecDepth 100000 in
theorem hk_throwsIf (l : Launch) (D : va_G) (dA : Nat → ClassId) (o : Nat) (b : Nat → Nat) (hB : hm_D dA o b) (a1 : Int32) (σ : hm_S) {Q : Int32 → hm_S → Prop} (hf : hw_throwsIf a1 σ Q) : Met l yX5_throwsIf (ws_ yX5_throwsIf cX5_throwsIf 2 (some .boolean)) (hb_R 0 0) (va_Pc [.ref o, .int a1] (hm_U D dA o b σ)) (va_Qi Q (hm_U D dA o b) (hm_A o b)) 0 0 (hm_A o b) := by
  refine hm_Mz hB (LV := [(0, .ref o), (1, .int a1)]) (by decide) rfl (Nat.le_of_ble_eq_true rfl) (fun p e s m args below meth c ls QQ C M hl hret => ?_)
  have hx := C.1.1
  have hb := C.1.2.1
  refine lv_aload_n hx hb dX5_throwsIf_0 rfl (lv_at hl 0 rfl) ?_
  refine lv_iload_n hx hb dX5_throwsIf_1 rfl (lv_at hl 1 rfl) ?_
  obtain ⟨hft, hff⟩ := hf
  refine lv_if_eq (tgt := 9) hx hb dX5_throwsIf_2 (by decide) (fun c1 => ?_) (fun c1 => ?_)
  · have hf := hft c1
    refine lv_iconst (v := 0) hx hb dX5_throwsIf_9 rfl ?_
    refine hm_put0 C M q2067 dX5_throwsIf_10 (fun H locs M => ?_)
    refine lv_iload_n hx hb dX5_throwsIf_13 rfl (lv_at hl 1 rfl) ?_
    exact hret _ _ _ _ _ _ dX5_throwsIf_14 M hf.1 hf.2
  · have hf := hff c1
    refine lv_iconst (v := 1) hx hb dX5_throwsIf_5 rfl ?_
    refine lv_goto (tgt := 10) hx hb dX5_throwsIf_6 (by decide) ?_
    refine hm_put0 C M q2067 dX5_throwsIf_10 (fun H locs M => ?_)
    refine lv_iload_n hx hb dX5_throwsIf_13 rfl (lv_at hl 1 rfl) ?_
    exact hret _ _ _ _ _ _ dX5_throwsIf_14 M hf.1 hf.2
def hw_person_b24 (v1_24 : Int32) (v2_24 : Int32) (t1_24 : Int32) (σ24 : hm_S) (Q : Int32 → hm_S → Prop) : Prop := hw_throwsIf t1_24 σ24 (fun r_24 σ_24 => ((r_24 = 0 → (v2_24 = 0 → vp_in (3 + v1_24) 346 ∧ (Q (hm_gA σ_24 6 (3 + v1_24)) σ_24)) ∧ (v2_24 = 1 → vp_in (105 + v1_24) 346 ∧ (Q (hm_gA σ_24 6 (105 + v1_24)) σ_24)) ∧ (v2_24 = 2 → hw_isLiving v1_24 σ_24 (fun r_101 σ_101 => ((r_101 = 0 → Q 0 σ_101) ∧ (¬ r_101 = 0 → Q 1 σ_101)))) ∧ (v2_24 = 3 → vp_in (117 + v1_24) 346 ∧ (Q ((hm_gA σ_24 6 (117 + v1_24)) - 1) σ_24)) ∧ (v2_24 = 4 → vp_in (27 + v1_24) 346 ∧ (Q (hm_gA σ_24 6 (27 + v1_24)) σ_24)) ∧ (v2_24 = 5 → hw_childrenOf ((1 : Int32) <<< (v1_24 &&& 31)) σ_24 (fun r_139 σ_139 => (Q r_139 σ_139))) ∧ (v2_24 = 6 → hw_livingIssue v1_24 σ_24 (fun r_145 σ_145 => (Q r_145 σ_145))) ∧ (v2_24 = 7 → hw_ofPerson 129 v1_24 σ_24 (fun r_154 σ_154 => (Q r_154 σ_154))) ∧ (¬ v2_24 = 0 → ¬ v2_24 = 1 → ¬ v2_24 = 2 → ¬ v2_24 = 3 → ¬ v2_24 = 4 → ¬ v2_24 = 5 → ¬ v2_24 = 6 → ¬ v2_24 = 7 → vp_in (51 + v1_24) 346 ∧ ((¬ (hm_gA σ_24 6 (51 + v1_24)) = 0 → vp_in (51 + v1_24) 346 ∧ (Q (hm_gA σ_24 6 (51 + v1_24)) σ_24)) ∧ ((hm_gA σ_24 6 (51 + v1_24)) = 0 → Q (-1) σ_24)))) ∧ (¬ r_24 = 0 → Q 0 σ_24)))
def hw_person_b19 (v1_19 : Int32) (v2_19 : Int32) (σ19 : hm_S) (Q : Int32 → hm_S → Prop) : Prop := hw_person_b24  v1_19 v2_19 1 σ19 Q
def hw_person (a1 : Int32) (a2 : Int32) (σ : hm_S) (Q : Int32 → hm_S → Prop) : Prop := hw_isPerson a1 σ (fun r_3 σ_3 => ((r_3 = 0 → hw_person_b19  a1 a2 σ_3 Q) ∧ (¬ r_3 = 0 → hw_isIn a2 0 8 σ_3 (fun r_13 σ_13 => ((¬ r_13 = 0 → hw_person_b24  a1 a2 0 σ_13 Q) ∧ (r_13 = 0 → hw_person_b19  a1 a2 σ_13 Q))))))
set_option maxHeartbeats 4000000 in
set_option maxRecDepth 100000 in
theorem hk_person (l : Launch) (D : va_G) (dA : Nat → ClassId) (o : Nat) (b : Nat → Nat) (hB : hm_D dA o b) (a1 : Int32) (a2 : Int32) (σ : hm_S) {Q : Int32 → hm_S → Prop} (hf : hw_person a1 a2 σ Q) : Met l yX5_person (ws_ yX5_person cX5_person 3 (some .int)) (hb_R 3 67) (va_Pc [.ref o, .int a1, .int a2] (hm_U D dA o b σ)) (va_Qi Q (hm_U D dA o b) (hm_A o b)) 0 0 (hm_A o b) := by
  refine hm_Mi hB (LV := [(0, .ref o), (1, .int a1), (2, .int a2)]) (by decide) rfl (Nat.le_of_ble_eq_true rfl) (fun p e s m args below meth c ls QQ C M hl hret => ?_)
  have hx := C.1.1
  have hb := C.1.2.1
  have B24 : ∀ (v1_24 : Int32) (v2_24 : Int32) (t1_24 : Int32) (σ24 : hm_S) (H : Heap) (locs : List Loc) (ls : Array Slot), hm_M D dA o b s.heap σ24 H locs → lv_has ls 3 [(0, .ref o), (1, .int v1_24), (2, .int v2_24)] → hw_person_b24  v1_24 v2_24 t1_24 σ24 Q → W p l e (hb_R 3 67) s m args below meth c H locs 0 0 QQ (F0 m 24 ls [.int t1_24, .ref o]) := by
    intro v1_24 v2_24 t1_24 σ24 H locs ls M hl hf
    refine hm_ci C M hl.1 (As := [.int t1_24]) (rest := []) (hk_throwsIf l D dA o b hB t1_24 σ24 hf) (n := 1) q2337 q2339 qs70 q140 q2340 (by decide +kernel) rfl ⟨Nat.le_of_ble_eq_true rfl, Nat.le_of_ble_eq_true rfl⟩ rfl (Nat.le_of_ble_eq_true rfl) dX5_person_24 (fun r_24 σ_24 H locs hf M => ?_)
    obtain ⟨hft, hff⟩ := hf
    refine lv_if_eq (tgt := 32) hx hb dX5_person_27 (by decide) (fun c1 => ?_) (fun c1 => ?_)
    · have hf := hft c1
      refine lv_iload_n hx hb dX5_person_32 rfl (lv_at hl 2 rfl) ?_
      obtain ⟨hf0, hf1, hf2, hf3, hf4, hf5, hf6, hf7, hf8⟩ := hf
      by_cases c0 : v2_24 = 0
      · have hf := hf0 c0
        refine hb_sw hx hb 0 c0 dX5_person_33 (by decide) (by decide) rfl (tgt := 80) (by decide) ?_
        refine lv_aload_n hx hb dX5_person_80 rfl (lv_at hl 0 rfl) ?_
        refine hm_get C M 6 (by decide) q2073 (v := .ref (b 6)) rfl dX5_person_81 ?_
        refine lv_iconst (v := 3) hx hb dX5_person_84 rfl ?_
        refine lv_iload_n hx hb dX5_person_85 rfl (lv_at hl 1 rfl) ?_
        refine lv_iadd hx hb dX5_person_86 ?_
        obtain ⟨g1, hf⟩ := hf
        refine hm_ald6 C M g1 dX5_person_87 ?_
        exact hret _ _ _ _ _ _ dX5_person_88 M hf
      by_cases c1 : v2_24 = 1
      · have hf := hf1 c1
        refine hb_sw hx hb 1 c1 dX5_person_33 (by decide) (by decide) rfl (tgt := 89) (by decide) ?_
        refine lv_aload_n hx hb dX5_person_89 rfl (lv_at hl 0 rfl) ?_
        refine hm_get C M 6 (by decide) q2073 (v := .ref (b 6)) rfl dX5_person_90 ?_
        refine lv_bipush (v := 105) hx hb dX5_person_93 rfl ?_
        refine lv_iload_n hx hb dX5_person_95 rfl (lv_at hl 1 rfl) ?_
        refine lv_iadd hx hb dX5_person_96 ?_
        obtain ⟨g1, hf⟩ := hf
        refine hm_ald6 C M g1 dX5_person_97 ?_
        exact hret _ _ _ _ _ _ dX5_person_98 M hf
      by_cases c2 : v2_24 = 2
      · have hf := hf2 c2
        refine hb_sw hx hb 2 c2 dX5_person_33 (by decide) (by decide) rfl (tgt := 99) (by decide) ?_
        refine lv_aload_n hx hb dX5_person_99 rfl (lv_at hl 0 rfl) ?_
        refine lv_iload_n hx hb dX5_person_100 rfl (lv_at hl 1 rfl) ?_
        refine hm_ci C M hl.1 (As := [.int v1_24]) (rest := []) (hk_isLiving l D dA o b hB v1_24 σ_24 hf) (n := 1) q2341 q2343 qs71 q140 q2344 (by decide +kernel) rfl ⟨Nat.le_of_ble_eq_true rfl, Nat.le_of_ble_eq_true rfl⟩ rfl (Nat.le_of_ble_eq_true rfl) dX5_person_101 (fun r_101 σ_101 H locs hf M => ?_)
        obtain ⟨hft, hff⟩ := hf
        refine lv_if_eq (tgt := 111) hx hb dX5_person_104 (by decide) (fun c1 => ?_) (fun c1 => ?_)
        · have hf := hft c1
          refine lv_iconst (v := 0) hx hb dX5_person_111 rfl ?_
          exact hret _ _ _ _ _ _ dX5_person_112 M hf
        · have hf := hff c1
          refine lv_iconst (v := 1) hx hb dX5_person_107 rfl ?_
          refine lv_goto (tgt := 112) hx hb dX5_person_108 (by decide) ?_
          exact hret _ _ _ _ _ _ dX5_person_112 M hf
      by_cases c3 : v2_24 = 3
      · have hf := hf3 c3
        refine hb_sw hx hb 3 c3 dX5_person_33 (by decide) (by decide) rfl (tgt := 113) (by decide) ?_
        refine lv_aload_n hx hb dX5_person_113 rfl (lv_at hl 0 rfl) ?_
        refine hm_get C M 6 (by decide) q2073 (v := .ref (b 6)) rfl dX5_person_114 ?_
        refine lv_bipush (v := 117) hx hb dX5_person_117 rfl ?_
        refine lv_iload_n hx hb dX5_person_119 rfl (lv_at hl 1 rfl) ?_
        refine lv_iadd hx hb dX5_person_120 ?_
        obtain ⟨g1, hf⟩ := hf
        refine hm_ald6 C M g1 dX5_person_121 ?_
        refine lv_iconst (v := 1) hx hb dX5_person_122 rfl ?_
        refine lv_isub hx hb dX5_person_123 ?_
        exact hret _ _ _ _ _ _ dX5_person_124 M hf
      by_cases c4 : v2_24 = 4
      · have hf := hf4 c4
        refine hb_sw hx hb 4 c4 dX5_person_33 (by decide) (by decide) rfl (tgt := 125) (by decide) ?_
        refine lv_aload_n hx hb dX5_person_125 rfl (lv_at hl 0 rfl) ?_
        refine hm_get C M 6 (by decide) q2073 (v := .ref (b 6)) rfl dX5_person_126 ?_
        refine lv_bipush (v := 27) hx hb dX5_person_129 rfl ?_
        refine lv_iload_n hx hb dX5_person_131 rfl (lv_at hl 1 rfl) ?_
        refine lv_iadd hx hb dX5_person_132 ?_
        obtain ⟨g1, hf⟩ := hf
        refine hm_ald6 C M g1 dX5_person_133 ?_
        exact hret _ _ _ _ _ _ dX5_person_134 M hf
      by_cases c5 : v2_24 = 5
      · have hf := hf5 c5
        refine hb_sw hx hb 5 c5 dX5_person_33 (by decide) (by decide) rfl (tgt := 135) (by decide) ?_
        refine lv_aload_n hx hb dX5_person_135 rfl (lv_at hl 0 rfl) ?_
        refine lv_iconst (v := 1) hx hb dX5_person_136 rfl ?_
        refine lv_iload_n hx hb dX5_person_137 rfl (lv_at hl 1 rfl) ?_
        refine lv_ishl hx hb dX5_person_138 ?_
        refine hm_ci C M hl.1 (As := [.int ((1 : Int32) <<< (v1_24 &&& 31))]) (rest := []) (hk_childrenOf l D dA o b hB ((1 : Int32) <<< (v1_24 &&& 31)) σ_24 hf) (n := 1) q2345 q2347 qs72 q140 q2348 (by decide +kernel) rfl ⟨Nat.le_of_ble_eq_true rfl, Nat.le_of_ble_eq_true rfl⟩ rfl (Nat.le_of_ble_eq_true rfl) dX5_person_139 (fun r_139 σ_139 H locs hf M => ?_)
        exact hret _ _ _ _ _ _ dX5_person_142 M hf
      by_cases c6 : v2_24 = 6
      · have hf := hf6 c6
        refine hb_sw hx hb 6 c6 dX5_person_33 (by decide) (by decide) rfl (tgt := 143) (by decide) ?_
        refine lv_aload_n hx hb dX5_person_143 rfl (lv_at hl 0 rfl) ?_
        refine lv_iload_n hx hb dX5_person_144 rfl (lv_at hl 1 rfl) ?_
        refine hm_ci C M hl.1 (As := [.int v1_24]) (rest := []) (hk_livingIssue l D dA o b hB v1_24 σ_24 hf) (n := 1) q2349 q2351 qs73 q140 q2352 (by decide +kernel) rfl ⟨Nat.le_of_ble_eq_true rfl, Nat.le_of_ble_eq_true rfl⟩ rfl (Nat.le_of_ble_eq_true rfl) dX5_person_145 (fun r_145 σ_145 H locs hf M => ?_)
        exact hret _ _ _ _ _ _ dX5_person_148 M hf
      by_cases c7 : v2_24 = 7
      · have hf := hf7 c7
        refine hb_sw hx hb 7 c7 dX5_person_33 (by decide) (by decide) rfl (tgt := 149) (by decide) ?_
        refine lv_aload_n hx hb dX5_person_149 rfl (lv_at hl 0 rfl) ?_
        refine lv_sipush (v := 129) hx hb dX5_person_150 rfl ?_
        refine lv_iload_n hx hb dX5_person_153 rfl (lv_at hl 1 rfl) ?_
        refine hm_ci C M hl.1 (As := [.int 129, .int v1_24]) (rest := []) (hk_ofPerson l D dA o b hB 129 v1_24 σ_24 hf) (n := 2) q2361 q2363 qs76 q140 q2364 (by decide +kernel) rfl ⟨Nat.le_of_ble_eq_true rfl, Nat.le_of_ble_eq_true rfl⟩ rfl (Nat.le_of_ble_eq_true rfl) dX5_person_154 (fun r_154 σ_154 H locs hf M => ?_)
        exact hret _ _ _ _ _ _ dX5_person_157 M hf
      have hf := hf8 c0 c1 c2 c3 c4 c5 c6 c7
      refine lv_tableOut (tgt := 158) hx hb dX5_person_33 (hb_swo (fun j j1 j2 => by
        have j3 : j = 0 ∨ j = 1 ∨ j = 2 ∨ j = 3 ∨ j = 4 ∨ j = 5 ∨ j = 6 ∨ j = 7 := by omega
        rcases j3 with rfl | rfl | rfl | rfl | rfl | rfl | rfl | rfl
        · exact c0
        · exact c1
        · exact c2
        · exact c3
        · exact c4
        · exact c5
        · exact c6
        · exact c7
        )) (by decide) ?_
      refine lv_aload_n hx hb dX5_person_158 rfl (lv_at hl 0 rfl) ?_
      refine hm_get C M 6 (by decide) q2073 (v := .ref (b 6)) rfl dX5_person_159 ?_
      refine lv_bipush (v := 51) hx hb dX5_person_162 rfl ?_
      refine lv_iload_n hx hb dX5_person_164 rfl (lv_at hl 1 rfl) ?_
      refine lv_iadd hx hb dX5_person_165 ?_
      obtain ⟨g1, hf⟩ := hf
      refine hm_ald6 C M g1 dX5_person_166 ?_
      obtain ⟨hft, hff⟩ := hf
      refine lv_if_ne (tgt := 174) hx hb dX5_person_167 (by decide) (fun c1 => ?_) (fun c1 => ?_)
      · have hf := hft c1
        refine lv_aload_n hx hb dX5_person_174 rfl (lv_at hl 0 rfl) ?_
        refine hm_get C M 6 (by decide) q2073 (v := .ref (b 6)) rfl dX5_person_175 ?_
        refine lv_bipush (v := 51) hx hb dX5_person_178 rfl ?_
        refine lv_iload_n hx hb dX5_person_180 rfl (lv_at hl 1 rfl) ?_
        refine lv_iadd hx hb dX5_person_181 ?_
        obtain ⟨g1, hf⟩ := hf
        refine hm_ald6 C M g1 dX5_person_182 ?_
        exact hret _ _ _ _ _ _ dX5_person_183 M hf
      · have hf := hff c1
        refine lv_iconst (v := (-1)) hx hb dX5_person_170 rfl ?_
        refine lv_goto (tgt := 183) hx hb dX5_person_171 (by decide) ?_
        exact hret _ _ _ _ _ _ dX5_person_183 M hf
    · have hf := hff c1
      refine lv_iconst (v := 0) hx hb dX5_person_30 rfl ?_
      exact hret _ _ _ _ _ _ dX5_person_31 M hf
  have B19 : ∀ (v1_19 : Int32) (v2_19 : Int32) (σ19 : hm_S) (H : Heap) (locs : List Loc) (ls : Array Slot), hm_M D dA o b s.heap σ19 H locs → lv_has ls 3 [(0, .ref o), (1, .int v1_19), (2, .int v2_19)] → hw_person_b19  v1_19 v2_19 σ19 Q → W p l e (hb_R 3 67) s m args below meth c H locs 0 0 QQ (F0 m 19 ls [.ref o]) := by
    intro v1_19 v2_19 σ19 H locs ls M hl hf
    refine lv_iconst (v := 1) hx hb dX5_person_19 rfl ?_
    refine lv_goto (tgt := 24) hx hb dX5_person_20 (by decide) ?_
    exact B24 v1_19 v2_19 1 σ19 _ _ _ M (lv_sub hl [0, 1, 2] rfl) hf
  refine lv_aload_n hx hb dX5_person_0 rfl (lv_at hl 0 rfl) ?_
  refine lv_aload_n hx hb dX5_person_1 rfl (lv_at hl 0 rfl) ?_
  refine lv_iload_n hx hb dX5_person_2 rfl (lv_at hl 1 rfl) ?_
  refine hm_ci C M hl.1 (As := [.int a1]) (rest := [.ref o]) (hk_isPerson l D dA o b hB a1 σ hf) (n := 1) q2333 q2335 qs69 q140 q2336 (by decide +kernel) rfl ⟨Nat.le_of_ble_eq_true rfl, Nat.le_of_ble_eq_true rfl⟩ rfl (Nat.le_of_ble_eq_true rfl) dX5_person_3 (fun r_3 σ_3 H locs hf M => ?_)
  obtain ⟨hft, hff⟩ := hf
  refine lv_if_eq (tgt := 19) hx hb dX5_person_6 (by decide) (fun c1 => ?_) (fun c1 => ?_)
  · have hf := hft c1
    exact B19 a1 a2 σ_3 _ _ _ M (lv_sub hl [0, 1, 2] rfl) hf
  · have hf := hff c1
    refine lv_iload_n hx hb dX5_person_9 rfl (lv_at hl 2 rfl) ?_
    refine lv_iconst (v := 0) hx hb dX5_person_10 rfl ?_
    refine lv_bipush (v := 8) hx hb dX5_person_11 rfl ?_
    refine hm_csi C M hl.1 (As := [.int a2, .int 0, .int 8]) (rest := [.ref o]) (hk_isIn l D dA o b hB a2 0 8 σ_3 hf) (n := 3) q2280 q2281 q140 q2282 (by decide +kernel) rfl ⟨Nat.le_of_ble_eq_true rfl, Nat.le_of_ble_eq_true rfl⟩ rfl (Nat.le_of_ble_eq_true rfl) dX5_person_13 (fun r_13 σ_13 H locs hf M => ?_)
    obtain ⟨hft, hff⟩ := hf
    refine lv_if_ne (tgt := 23) hx hb dX5_person_16 (by decide) (fun c1 => ?_) (fun c1 => ?_)
    · have hf := hft c1
      refine lv_iconst (v := 0) hx hb dX5_person_23 rfl ?_
      exact B24 a1 a2 0 σ_13 _ _ _ M (lv_sub hl [0, 1, 2] rfl) hf
    · have hf := hff c1
      exact B19 a1 a2 σ_13 _ _ _ M (lv_sub hl [0, 1, 2] rfl) hf
def hw_legacy (a1 : Int32) (a2 : Int32) (σ : hm_S) (Q : Int32 → hm_S → Prop) : Prop := vp_in 104 346 ∧ (hw_isIn a1 0 ((hm_gA (hm_sI σ 0 0) 6 104) - 1) (hm_sI σ 0 0) (fun r_16 σ_16 => ((¬ r_16 = 0 → (¬ a2 = 0 → (¬ a2 = 1 → (¬ a2 = 2 → Q (-1) σ_16) ∧ (a2 = 2 → vp_in (153 + a1) 346 ∧ (Q (hm_gA σ_16 6 (153 + a1)) σ_16))) ∧ (a2 = 1 → vp_in (141 + a1) 346 ∧ (Q (hm_gA σ_16 6 (141 + a1)) σ_16))) ∧ (a2 = 0 → vp_in (129 + a1) 346 ∧ (Q (hm_gA σ_16 6 (129 + a1)) σ_16))) ∧ (r_16 = 0 → Q (-1) σ_16))))
set_option maxHeartbeats 4000000 in
set_option maxRecDepth 100000 in
theorem hk_legacy (l : Launch) (D : va_G) (dA : Nat → ClassId) (o : Nat) (b : Nat → Nat) (hB : hm_D dA o b) (a1 : Int32) (a2 : Int32) (σ : hm_S) {Q : Int32 → hm_S → Prop} (hf : hw_legacy a1 a2 σ Q) : Met l yX5_legacy (ws_ yX5_legacy cX5_legacy 3 (some .int)) (hb_R 1 22) (va_Pc [.ref o, .int a1, .int a2] (hm_U D dA o b σ)) (va_Qi Q (hm_U D dA o b) (hm_A o b)) 0 0 (hm_A o b) := by
  refine hm_Mi hB (LV := [(0, .ref o), (1, .int a1), (2, .int a2)]) (by decide) rfl (Nat.le_of_ble_eq_true rfl) (fun p e s m args below meth c ls QQ C M hl hret => ?_)
  have hx := C.1.1
  have hb := C.1.2.1
  refine lv_aload_n hx hb dX5_legacy_0 rfl (lv_at hl 0 rfl) ?_
  refine lv_iconst (v := 0) hx hb dX5_legacy_1 rfl ?_
  refine hm_put0 C M q2067 dX5_legacy_2 (fun H locs M => ?_)
  refine lv_iload_n hx hb dX5_legacy_5 rfl (lv_at hl 1 rfl) ?_
  refine lv_iconst (v := 0) hx hb dX5_legacy_6 rfl ?_
  refine lv_aload_n hx hb dX5_legacy_7 rfl (lv_at hl 0 rfl) ?_
  refine hm_get C M 6 (by decide) q2073 (v := .ref (b 6)) rfl dX5_legacy_8 ?_
  refine lv_bipush (v := 104) hx hb dX5_legacy_11 rfl ?_
  obtain ⟨g1, hf⟩ := hf
  refine hm_ald6 C M g1 dX5_legacy_13 ?_
  refine lv_iconst (v := 1) hx hb dX5_legacy_14 rfl ?_
  refine lv_isub hx hb dX5_legacy_15 ?_
  refine hm_csi C M hl.1 (As := [.int a1, .int 0, .int ((hm_gA (hm_sI σ 0 0) 6 104) - 1)]) (rest := []) (hk_isIn l D dA o b hB a1 0 ((hm_gA (hm_sI σ 0 0) 6 104) - 1) (hm_sI σ 0 0) hf) (n := 3) q2280 q2281 q140 q2282 (by decide +kernel) rfl ⟨Nat.le_of_ble_eq_true rfl, Nat.le_of_ble_eq_true rfl⟩ rfl (Nat.le_of_ble_eq_true rfl) dX5_legacy_16 (fun r_16 σ_16 H locs hf M => ?_)
  obtain ⟨hft, hff⟩ := hf
  refine lv_if_ne (tgt := 24) hx hb dX5_legacy_19 (by decide) (fun c1 => ?_) (fun c1 => ?_)
  · have hf := hft c1
    refine lv_iload_n hx hb dX5_legacy_24 rfl (lv_at hl 2 rfl) ?_
    obtain ⟨hft, hff⟩ := hf
    refine lv_if_ne (tgt := 41) hx hb dX5_legacy_25 (by decide) (fun c1 => ?_) (fun c1 => ?_)
    · have hf := hft c1
      refine lv_iload_n hx hb dX5_legacy_41 rfl (lv_at hl 2 rfl) ?_
      refine lv_iconst (v := 1) hx hb dX5_legacy_42 rfl ?_
      obtain ⟨hft, hff⟩ := hf
      refine lv_icmp_ne (tgt := 59) hx hb dX5_legacy_43 (by decide) (fun c1 => ?_) (fun c1 => ?_)
      · have hf := hft c1
        refine lv_iload_n hx hb dX5_legacy_59 rfl (lv_at hl 2 rfl) ?_
        refine lv_iconst (v := 2) hx hb dX5_legacy_60 rfl ?_
        obtain ⟨hft, hff⟩ := hf
        refine lv_icmp_ne (tgt := 77) hx hb dX5_legacy_61 (by decide) (fun c1 => ?_) (fun c1 => ?_)
        · have hf := hft c1
          refine lv_iconst (v := (-1)) hx hb dX5_legacy_77 rfl ?_
          exact hret _ _ _ _ _ _ dX5_legacy_78 M hf
        · have hf := hff c1
          refine lv_aload_n hx hb dX5_legacy_64 rfl (lv_at hl 0 rfl) ?_
          refine hm_get C M 6 (by decide) q2073 (v := .ref (b 6)) rfl dX5_legacy_65 ?_
          refine lv_sipush (v := 153) hx hb dX5_legacy_68 rfl ?_
          refine lv_iload_n hx hb dX5_legacy_71 rfl (lv_at hl 1 rfl) ?_
          refine lv_iadd hx hb dX5_legacy_72 ?_
          obtain ⟨g1, hf⟩ := hf
          refine hm_ald6 C M g1 dX5_legacy_73 ?_
          refine lv_goto (tgt := 78) hx hb dX5_legacy_74 (by decide) ?_
          exact hret _ _ _ _ _ _ dX5_legacy_78 M hf
      · have hf := hff c1
        refine lv_aload_n hx hb dX5_legacy_46 rfl (lv_at hl 0 rfl) ?_
        refine hm_get C M 6 (by decide) q2073 (v := .ref (b 6)) rfl dX5_legacy_47 ?_
        refine lv_sipush (v := 141) hx hb dX5_legacy_50 rfl ?_
        refine lv_iload_n hx hb dX5_legacy_53 rfl (lv_at hl 1 rfl) ?_
        refine lv_iadd hx hb dX5_legacy_54 ?_
        obtain ⟨g1, hf⟩ := hf
        refine hm_ald6 C M g1 dX5_legacy_55 ?_
        refine lv_goto (tgt := 78) hx hb dX5_legacy_56 (by decide) ?_
        exact hret _ _ _ _ _ _ dX5_legacy_78 M hf
    · have hf := hff c1
      refine lv_aload_n hx hb dX5_legacy_28 rfl (lv_at hl 0 rfl) ?_
      refine hm_get C M 6 (by decide) q2073 (v := .ref (b 6)) rfl dX5_legacy_29 ?_
      refine lv_sipush (v := 129) hx hb dX5_legacy_32 rfl ?_
      refine lv_iload_n hx hb dX5_legacy_35 rfl (lv_at hl 1 rfl) ?_
      refine lv_iadd hx hb dX5_legacy_36 ?_
      obtain ⟨g1, hf⟩ := hf
      refine hm_ald6 C M g1 dX5_legacy_37 ?_
      refine lv_goto (tgt := 78) hx hb dX5_legacy_38 (by decide) ?_
      exact hret _ _ _ _ _ _ dX5_legacy_78 M hf
  · have hf := hff c1
    refine lv_iconst (v := (-1)) hx hb dX5_legacy_22 rfl ?_
    exact hret _ _ _ _ _ _ dX5_legacy_23 M hf
def hw_parentsOf_b4 : Nat → Int32 → Int32 → Int32 → hm_S → (Int32 → hm_S → Prop) → Prop
  | 0, _, _, _, _, _ => False
  | n4 + 1, v1_4, v2_4, v3_4, σ4, Q => vp_in 0 346 ∧ (((hm_gA σ4 6 0) ≤ v3_4 → Q v2_4 σ4) ∧ (¬ (hm_gA σ4 6 0) ≤ v3_4 → hw_bitOf v1_4 v3_4 σ4 (fun r_17 σ_17 => ((r_17 = 0 → hw_parentsOf_b4  n4 v1_4 (v2_4 ||| 0) (v3_4 + 1) σ_17 Q) ∧ (¬ r_17 = 0 → vp_in (27 + v3_4) 346 ∧ (hw_parentsOf_b4  n4 v1_4 (v2_4 ||| (hm_gA σ_17 6 (27 + v3_4))) (v3_4 + 1) σ_17 Q))))))
def hw_parentsOf (a1 : Int32) (σ : hm_S) (Q : Int32 → hm_S → Prop) : Prop := ∃ n, hw_parentsOf_b4  n a1 0 0 σ Q
set_option maxHeartbeats 4000000 in
set_option maxRecDepth 100000 in
theorem hk_parentsOf (l : Launch) (D : va_G) (dA : Nat → ClassId) (o : Nat) (b : Nat → Nat) (hB : hm_D dA o b) (a1 : Int32) (σ : hm_S) {Q : Int32 → hm_S → Prop} (hf : hw_parentsOf a1 σ Q) : Met l yX5_parentsOf (ws_ yX5_parentsOf cX5_parentsOf 4 (some .int)) (hb_R 1 21) (va_Pc [.ref o, .int a1] (hm_U D dA o b σ)) (va_Qi Q (hm_U D dA o b) (hm_A o b)) 0 0 (hm_A o b) := by
  refine hm_Mi hB (LV := [(0, .ref o), (1, .int a1)]) (by decide) rfl (Nat.le_of_ble_eq_true rfl) (fun p e s m args below meth c ls QQ C M hl hret => ?_)
  have hx := C.1.1
  have hb := C.1.2.1
  have B4 : ∀ (n4 : Nat) (v1_4 : Int32) (v2_4 : Int32) (v3_4 : Int32) (σ4 : hm_S) (H : Heap) (locs : List Loc) (ls : Array Slot), hm_M D dA o b s.heap σ4 H locs → lv_has ls 4 [(0, .ref o), (1, .int v1_4), (2, .int v2_4), (3, .int v3_4)] → hw_parentsOf_b4  n4 v1_4 v2_4 v3_4 σ4 Q → W p l e (hb_R 1 21) s m args below meth c H locs 0 0 QQ (F0 m 4 ls []) := by
    intro n4
    induction n4 with
    | zero => intro v1_4 v2_4 v3_4 σ4 H locs ls M hl hf; exact hf.elim
    | succ n4 ih4 =>
      intro v1_4 v2_4 v3_4 σ4 H locs ls M hl hf
      refine lv_iload_n hx hb dX5_parentsOf_4 rfl (lv_at hl 3 rfl) ?_
      refine lv_aload_n hx hb dX5_parentsOf_5 rfl (lv_at hl 0 rfl) ?_
      refine hm_get C M 6 (by decide) q2073 (v := .ref (b 6)) rfl dX5_parentsOf_6 ?_
      refine lv_iconst (v := 0) hx hb dX5_parentsOf_9 rfl ?_
      obtain ⟨g1, hf⟩ := hf
      refine hm_ald6 C M g1 dX5_parentsOf_10 ?_
      obtain ⟨hft, hff⟩ := hf
      refine lv_icmp_ge (tgt := 44) hx hb dX5_parentsOf_11 (by decide) (fun c1 => ?_) (fun c1 => ?_)
      · have hf := hft c1
        refine lv_iload_n hx hb dX5_parentsOf_44 rfl (lv_at hl 2 rfl) ?_
        exact hret _ _ _ _ _ _ dX5_parentsOf_45 M hf
      · have hf := hff c1
        refine lv_iload_n hx hb dX5_parentsOf_14 rfl (lv_at hl 2 rfl) ?_
        refine lv_iload_n hx hb dX5_parentsOf_15 rfl (lv_at hl 1 rfl) ?_
        refine lv_iload_n hx hb dX5_parentsOf_16 rfl (lv_at hl 3 rfl) ?_
        refine hm_csi C M hl.1 (As := [.int v1_4, .int v3_4]) (rest := [.int v2_4]) (hk_bitOf l D dA o b hB v1_4 v3_4 σ4 hf) (n := 2) q2294 q2295 q140 q2296 (by decide +kernel) rfl ⟨Nat.le_of_ble_eq_true rfl, Nat.le_of_ble_eq_true rfl⟩ rfl (Nat.le_of_ble_eq_true rfl) dX5_parentsOf_17 (fun r_17 σ_17 H locs hf M => ?_)
        obtain ⟨hft, hff⟩ := hf
        refine lv_if_eq (tgt := 35) hx hb dX5_parentsOf_20 (by decide) (fun c1 => ?_) (fun c1 => ?_)
        · have hf := hft c1
          refine lv_iconst (v := 0) hx hb dX5_parentsOf_35 rfl ?_
          refine lv_ior hx hb dX5_parentsOf_36 ?_
          refine lv_istore_n (lv' := [(2, .int (v2_4 ||| 0)), (0, .ref o), (1, .int v1_4), (3, .int v3_4)]) hx hb dX5_parentsOf_37 rfl hl (by decide) rfl (fun ls hl => ?_)
          refine lv_iinc (v := v3_4 + 1) (lv' := [(3, .int (v3_4 + 1)), (2, .int (v2_4 ||| 0)), (0, .ref o), (1, .int v1_4)]) hx hb dX5_parentsOf_38 hl (k := 3) rfl rfl (by decide) rfl (fun ls hl => ?_)
          refine lv_goto (tgt := 4) hx hb dX5_parentsOf_41 (by decide) ?_
          exact ih4 v1_4 (v2_4 ||| 0) (v3_4 + 1) σ_17 _ _ _ M (lv_sub hl [2, 3, 1, 0] rfl) hf
        · have hf := hff c1
          refine lv_aload_n hx hb dX5_parentsOf_23 rfl (lv_at hl 0 rfl) ?_
          refine hm_get C M 6 (by decide) q2073 (v := .ref (b 6)) rfl dX5_parentsOf_24 ?_
          refine lv_bipush (v := 27) hx hb dX5_parentsOf_27 rfl ?_
          refine lv_iload_n hx hb dX5_parentsOf_29 rfl (lv_at hl 3 rfl) ?_
          refine lv_iadd hx hb dX5_parentsOf_30 ?_
          obtain ⟨g1, hf⟩ := hf
          refine hm_ald6 C M g1 dX5_parentsOf_31 ?_
          refine lv_goto (tgt := 36) hx hb dX5_parentsOf_32 (by decide) ?_
          refine lv_ior hx hb dX5_parentsOf_36 ?_
          refine lv_istore_n (lv' := [(2, .int (v2_4 ||| (hm_gA σ_17 6 (27 + v3_4)))), (0, .ref o), (1, .int v1_4), (3, .int v3_4)]) hx hb dX5_parentsOf_37 rfl hl (by decide) rfl (fun ls hl => ?_)
          refine lv_iinc (v := v3_4 + 1) (lv' := [(3, .int (v3_4 + 1)), (2, .int (v2_4 ||| (hm_gA σ_17 6 (27 + v3_4)))), (0, .ref o), (1, .int v1_4)]) hx hb dX5_parentsOf_38 hl (k := 3) rfl rfl (by decide) rfl (fun ls hl => ?_)
          refine lv_goto (tgt := 4) hx hb dX5_parentsOf_41 (by decide) ?_
          exact ih4 v1_4 (v2_4 ||| (hm_gA σ_17 6 (27 + v3_4))) (v3_4 + 1) σ_17 _ _ _ M (lv_sub hl [2, 3, 1, 0] rfl) hf
  refine lv_iconst (v := 0) hx hb dX5_parentsOf_0 rfl ?_
  refine lv_istore_n (lv' := [(2, .int 0), (0, .ref o), (1, .int a1)]) hx hb dX5_parentsOf_1 rfl hl (by decide) rfl (fun ls hl => ?_)
  refine lv_iconst (v := 0) hx hb dX5_parentsOf_2 rfl ?_
  refine lv_istore_n (lv' := [(3, .int 0), (2, .int 0), (0, .ref o), (1, .int a1)]) hx hb dX5_parentsOf_3 rfl hl (by decide) rfl (fun ls hl => ?_)
  obtain ⟨nn, hf⟩ := hf
  exact B4 nn a1 0 0 σ _ _ _ M (lv_sub hl [2, 3, 1, 0] rfl) hf
def hw_degreeOf_b30 (k10 : Int32 → Int32 → Int32 → Int32 → hm_S → Prop) : Nat → Int32 → Int32 → Int32 → Int32 → Int32 → Int32 → hm_S → (Int32 → hm_S → Prop) → Prop
  | 0, _, _, _, _, _, _, _, _ => False
  | n30 + 1, v2_30, v3_30, v4_30, v5_30, v6_30, v7_30, σ30, Q => (12 ≤ v7_30 → hw_parentsOf v4_30 σ30 (fun r_86 σ_86 => (k10 v2_30 v3_30 r_86 (v5_30 + 1) σ_86))) ∧ (¬ 12 ≤ v7_30 → (v6_30 = 0 → hw_parentsOf v4_30 σ30 (fun r_86 σ_86 => (k10 v2_30 v3_30 r_86 (v5_30 + 1) σ_86))) ∧ (¬ v6_30 = 0 → ((v4_30 &&& v6_30) = 0 → hw_parentsOf v6_30 σ30 (fun r_72 σ_72 => (hw_degreeOf_b30 k10 n30 v2_30 v3_30 v4_30 v5_30 r_72 (v7_30 + 1) σ_72 Q))) ∧ (¬ (v4_30 &&& v6_30) = 0 → (v3_30 < 0 → hw_parentsOf v6_30 σ30 (fun r_72 σ_72 => (hw_degreeOf_b30 k10 n30 v2_30 (v5_30 + v7_30) v4_30 v5_30 r_72 (v7_30 + 1) σ_72 Q))) ∧ (¬ v3_30 < 0 → (v3_30 ≤ (v5_30 + v7_30) → hw_parentsOf v6_30 σ30 (fun r_72 σ_72 => (hw_degreeOf_b30 k10 n30 v2_30 v3_30 v4_30 v5_30 r_72 (v7_30 + 1) σ_72 Q))) ∧ (¬ v3_30 ≤ (v5_30 + v7_30) → hw_parentsOf v6_30 σ30 (fun r_72 σ_72 => (hw_degreeOf_b30 k10 n30 v2_30 (v5_30 + v7_30) v4_30 v5_30 r_72 (v7_30 + 1) σ_72 Q)))))))
def hw_degreeOf_b10 : Nat → Int32 → Int32 → Int32 → Int32 → hm_S → (Int32 → hm_S → Prop) → Prop
  | 0, _, _, _, _, _, _ => False
  | n10 + 1, v2_10, v3_10, v4_10, v5_10, σ10, Q => (12 ≤ v5_10 → Q v3_10 σ10) ∧ (¬ 12 ≤ v5_10 → (v4_10 = 0 → Q v3_10 σ10) ∧ (¬ v4_10 = 0 → ∃ n, hw_degreeOf_b30 (fun (u0 : Int32) (u1 : Int32) (u2 : Int32) (u3 : Int32) (τ : hm_S) => hw_degreeOf_b10  n10 u0 u1 u2 u3 τ Q) n v2_10 v3_10 v4_10 v5_10 ((1 : Int32) <<< (v2_10 &&& 31)) 0 σ10 Q))
def hw_degreeOf (a1 : Int32) (a2 : Int32) (σ : hm_S) (Q : Int32 → hm_S → Prop) : Prop := ∃ n, hw_degreeOf_b10  n a2 (-1) ((1 : Int32) <<< (a1 &&& 31)) 0 σ Q
set_option maxHeartbeats 4000000 in
set_option maxRecDepth 100000 in
theorem hk_degreeOf (l : Launch) (D : va_G) (dA : Nat → ClassId) (o : Nat) (b : Nat → Nat) (hB : hm_D dA o b) (a1 : Int32) (a2 : Int32) (σ : hm_S) {Q : Int32 → hm_S → Prop} (hf : hw_degreeOf a1 a2 σ Q) : Met l yX5_degreeOf (ws_ yX5_degreeOf cX5_degreeOf 8 (some .int)) (hb_R 2 44) (va_Pc [.ref o, .int a1, .int a2] (hm_U D dA o b σ)) (va_Qi Q (hm_U D dA o b) (hm_A o b)) 0 0 (hm_A o b) := by
  refine hm_Mi hB (LV := [(0, .ref o), (1, .int a1), (2, .int a2)]) (by decide) rfl (Nat.le_of_ble_eq_true rfl) (fun p e s m args below meth c ls QQ C M hl hret => ?_)
  have hx := C.1.1
  have hb := C.1.2.1
  have B10 : ∀ (n10 : Nat) (v2_10 : Int32) (v3_10 : Int32) (v4_10 : Int32) (v5_10 : Int32) (σ10 : hm_S) (H : Heap) (locs : List Loc) (ls : Array Slot), hm_M D dA o b s.heap σ10 H locs → lv_has ls 8 [(0, .ref o), (2, .int v2_10), (3, .int v3_10), (4, .int v4_10), (5, .int v5_10)] → hw_degreeOf_b10  n10 v2_10 v3_10 v4_10 v5_10 σ10 Q → W p l e (hb_R 2 44) s m args below meth c H locs 0 0 QQ (F0 m 10 ls []) := by
    intro n10
    induction n10 with
    | zero => intro v2_10 v3_10 v4_10 v5_10 σ10 H locs ls M hl hf; exact hf.elim
    | succ n10 ih10 =>
      have B30 : ∀ (n30 : Nat) (v2_30 : Int32) (v3_30 : Int32) (v4_30 : Int32) (v5_30 : Int32) (v6_30 : Int32) (v7_30 : Int32) (σ30 : hm_S) (H : Heap) (locs : List Loc) (ls : Array Slot), hm_M D dA o b s.heap σ30 H locs → lv_has ls 8 [(0, .ref o), (2, .int v2_30), (3, .int v3_30), (4, .int v4_30), (5, .int v5_30), (6, .int v6_30), (7, .int v7_30)] → hw_degreeOf_b30 (fun (u0 : Int32) (u1 : Int32) (u2 : Int32) (u3 : Int32) (τ : hm_S) => hw_degreeOf_b10  n10 u0 u1 u2 u3 τ Q) n30 v2_30 v3_30 v4_30 v5_30 v6_30 v7_30 σ30 Q → W p l e (hb_R 2 44) s m args below meth c H locs 0 0 QQ (F0 m 30 ls []) := by
        intro n30
        induction n30 with
        | zero => intro v2_30 v3_30 v4_30 v5_30 v6_30 v7_30 σ30 H locs ls M hl hf; exact hf.elim
        | succ n30 ih30 =>
          intro v2_30 v3_30 v4_30 v5_30 v6_30 v7_30 σ30 H locs ls M hl hf
          refine lv_iload hx hb dX5_degreeOf_30 (lv_at hl 6 rfl) ?_
          refine lv_bipush (v := 12) hx hb dX5_degreeOf_32 rfl ?_
          obtain ⟨hft, hff⟩ := hf
          refine lv_icmp_ge (tgt := 83) hx hb dX5_degreeOf_34 (by decide) (fun c1 => ?_) (fun c1 => ?_)
          · have hf := hft c1
            refine lv_aload_n hx hb dX5_degreeOf_83 rfl (lv_at hl 0 rfl) ?_
            refine lv_iload hx hb dX5_degreeOf_84 (lv_at hl 3 rfl) ?_
            refine hm_ci C M hl.1 (As := [.int v4_30]) (rest := []) (hk_parentsOf l D dA o b hB v4_30 σ30 hf) (n := 1) q2377 q2379 qs78 q140 q2380 (by decide +kernel) rfl ⟨Nat.le_of_ble_eq_true rfl, Nat.le_of_ble_eq_true rfl⟩ rfl (Nat.le_of_ble_eq_true rfl) dX5_degreeOf_86 (fun r_86 σ_86 H locs hf M => ?_)
            refine lv_istore (lv' := [(4, .int r_86), (0, .ref o), (2, .int v2_30), (3, .int v3_30), (5, .int v5_30), (6, .int v6_30), (7, .int v7_30)]) hx hb dX5_degreeOf_89 hl (by decide) rfl (fun ls hl => ?_)
            refine lv_iinc (v := v5_30 + 1) (lv' := [(5, .int (v5_30 + 1)), (4, .int r_86), (0, .ref o), (2, .int v2_30), (3, .int v3_30), (6, .int v6_30), (7, .int v7_30)]) hx hb dX5_degreeOf_91 hl (k := 4) rfl rfl (by decide) rfl (fun ls hl => ?_)
            refine lv_goto (tgt := 10) hx hb dX5_degreeOf_94 (by decide) ?_
            exact ih10 v2_30 v3_30 r_86 (v5_30 + 1) σ_86 _ _ _ M (lv_sub hl [2, 3, 4, 1, 0] rfl) hf
          · have hf := hff c1
            refine lv_iload hx hb dX5_degreeOf_37 (lv_at hl 5 rfl) ?_
            obtain ⟨hft, hff⟩ := hf
            refine lv_if_eq (tgt := 83) hx hb dX5_degreeOf_39 (by decide) (fun c1 => ?_) (fun c1 => ?_)
            · have hf := hft c1
              refine lv_aload_n hx hb dX5_degreeOf_83 rfl (lv_at hl 0 rfl) ?_
              refine lv_iload hx hb dX5_degreeOf_84 (lv_at hl 3 rfl) ?_
              refine hm_ci C M hl.1 (As := [.int v4_30]) (rest := []) (hk_parentsOf l D dA o b hB v4_30 σ30 hf) (n := 1) q2377 q2379 qs78 q140 q2380 (by decide +kernel) rfl ⟨Nat.le_of_ble_eq_true rfl, Nat.le_of_ble_eq_true rfl⟩ rfl (Nat.le_of_ble_eq_true rfl) dX5_degreeOf_86 (fun r_86 σ_86 H locs hf M => ?_)
              refine lv_istore (lv' := [(4, .int r_86), (0, .ref o), (2, .int v2_30), (3, .int v3_30), (5, .int v5_30), (6, .int v6_30), (7, .int v7_30)]) hx hb dX5_degreeOf_89 hl (by decide) rfl (fun ls hl => ?_)
              refine lv_iinc (v := v5_30 + 1) (lv' := [(5, .int (v5_30 + 1)), (4, .int r_86), (0, .ref o), (2, .int v2_30), (3, .int v3_30), (6, .int v6_30), (7, .int v7_30)]) hx hb dX5_degreeOf_91 hl (k := 4) rfl rfl (by decide) rfl (fun ls hl => ?_)
              refine lv_goto (tgt := 10) hx hb dX5_degreeOf_94 (by decide) ?_
              exact ih10 v2_30 v3_30 r_86 (v5_30 + 1) σ_86 _ _ _ M (lv_sub hl [2, 3, 4, 1, 0] rfl) hf
            · have hf := hff c1
              refine lv_iload hx hb dX5_degreeOf_42 (lv_at hl 3 rfl) ?_
              refine lv_iload hx hb dX5_degreeOf_44 (lv_at hl 5 rfl) ?_
              refine lv_iand hx hb dX5_degreeOf_46 ?_
              obtain ⟨hft, hff⟩ := hf
              refine lv_if_eq (tgt := 69) hx hb dX5_degreeOf_47 (by decide) (fun c1 => ?_) (fun c1 => ?_)
              · have hf := hft c1
                refine lv_aload_n hx hb dX5_degreeOf_69 rfl (lv_at hl 0 rfl) ?_
                refine lv_iload hx hb dX5_degreeOf_70 (lv_at hl 5 rfl) ?_
                refine hm_ci C M hl.1 (As := [.int v6_30]) (rest := []) (hk_parentsOf l D dA o b hB v6_30 σ30 hf) (n := 1) q2377 q2379 qs78 q140 q2380 (by decide +kernel) rfl ⟨Nat.le_of_ble_eq_true rfl, Nat.le_of_ble_eq_true rfl⟩ rfl (Nat.le_of_ble_eq_true rfl) dX5_degreeOf_72 (fun r_72 σ_72 H locs hf M => ?_)
                refine lv_istore (lv' := [(6, .int r_72), (0, .ref o), (2, .int v2_30), (3, .int v3_30), (4, .int v4_30), (5, .int v5_30), (7, .int v7_30)]) hx hb dX5_degreeOf_75 hl (by decide) rfl (fun ls hl => ?_)
                refine lv_iinc (v := v7_30 + 1) (lv' := [(7, .int (v7_30 + 1)), (6, .int r_72), (0, .ref o), (2, .int v2_30), (3, .int v3_30), (4, .int v4_30), (5, .int v5_30)]) hx hb dX5_degreeOf_77 hl (k := 6) rfl rfl (by decide) rfl (fun ls hl => ?_)
                refine lv_goto (tgt := 30) hx hb dX5_degreeOf_80 (by decide) ?_
                exact ih30 v2_30 v3_30 v4_30 v5_30 r_72 (v7_30 + 1) σ_72 _ _ _ M (lv_sub hl [2, 3, 4, 5, 6, 1, 0] rfl) hf
              · have hf := hff c1
                refine lv_iload_n hx hb dX5_degreeOf_50 rfl (lv_at hl 2 rfl) ?_
                obtain ⟨hft, hff⟩ := hf
                refine lv_if_lt (tgt := 63) hx hb dX5_degreeOf_51 (by decide) (fun c1 => ?_) (fun c1 => ?_)
                · have hf := hft c1
                  refine lv_iload hx hb dX5_degreeOf_63 (lv_at hl 4 rfl) ?_
                  refine lv_iload hx hb dX5_degreeOf_65 (lv_at hl 6 rfl) ?_
                  refine lv_iadd hx hb dX5_degreeOf_67 ?_
                  refine lv_istore_n (lv' := [(3, .int (v5_30 + v7_30)), (0, .ref o), (2, .int v2_30), (4, .int v4_30), (5, .int v5_30), (6, .int v6_30), (7, .int v7_30)]) hx hb dX5_degreeOf_68 rfl hl (by decide) rfl (fun ls hl => ?_)
                  refine lv_aload_n hx hb dX5_degreeOf_69 rfl (lv_at hl 1 rfl) ?_
                  refine lv_iload hx hb dX5_degreeOf_70 (lv_at hl 5 rfl) ?_
                  refine hm_ci C M hl.1 (As := [.int v6_30]) (rest := []) (hk_parentsOf l D dA o b hB v6_30 σ30 hf) (n := 1) q2377 q2379 qs78 q140 q2380 (by decide +kernel) rfl ⟨Nat.le_of_ble_eq_true rfl, Nat.le_of_ble_eq_true rfl⟩ rfl (Nat.le_of_ble_eq_true rfl) dX5_degreeOf_72 (fun r_72 σ_72 H locs hf M => ?_)
                  refine lv_istore (lv' := [(6, .int r_72), (3, .int (v5_30 + v7_30)), (0, .ref o), (2, .int v2_30), (4, .int v4_30), (5, .int v5_30), (7, .int v7_30)]) hx hb dX5_degreeOf_75 hl (by decide) rfl (fun ls hl => ?_)
                  refine lv_iinc (v := v7_30 + 1) (lv' := [(7, .int (v7_30 + 1)), (6, .int r_72), (3, .int (v5_30 + v7_30)), (0, .ref o), (2, .int v2_30), (4, .int v4_30), (5, .int v5_30)]) hx hb dX5_degreeOf_77 hl (k := 6) rfl rfl (by decide) rfl (fun ls hl => ?_)
                  refine lv_goto (tgt := 30) hx hb dX5_degreeOf_80 (by decide) ?_
                  exact ih30 v2_30 (v5_30 + v7_30) v4_30 v5_30 r_72 (v7_30 + 1) σ_72 _ _ _ M (lv_sub hl [3, 4, 2, 5, 6, 1, 0] rfl) hf
                · have hf := hff c1
                  refine lv_iload hx hb dX5_degreeOf_54 (lv_at hl 4 rfl) ?_
                  refine lv_iload hx hb dX5_degreeOf_56 (lv_at hl 6 rfl) ?_
                  refine lv_iadd hx hb dX5_degreeOf_58 ?_
                  refine lv_iload_n hx hb dX5_degreeOf_59 rfl (lv_at hl 2 rfl) ?_
                  obtain ⟨hft, hff⟩ := hf
                  refine lv_icmp_ge (tgt := 69) hx hb dX5_degreeOf_60 (by decide) (fun c1 => ?_) (fun c1 => ?_)
                  · have hf := hft c1
                    refine lv_aload_n hx hb dX5_degreeOf_69 rfl (lv_at hl 0 rfl) ?_
                    refine lv_iload hx hb dX5_degreeOf_70 (lv_at hl 5 rfl) ?_
                    refine hm_ci C M hl.1 (As := [.int v6_30]) (rest := []) (hk_parentsOf l D dA o b hB v6_30 σ30 hf) (n := 1) q2377 q2379 qs78 q140 q2380 (by decide +kernel) rfl ⟨Nat.le_of_ble_eq_true rfl, Nat.le_of_ble_eq_true rfl⟩ rfl (Nat.le_of_ble_eq_true rfl) dX5_degreeOf_72 (fun r_72 σ_72 H locs hf M => ?_)
                    refine lv_istore (lv' := [(6, .int r_72), (0, .ref o), (2, .int v2_30), (3, .int v3_30), (4, .int v4_30), (5, .int v5_30), (7, .int v7_30)]) hx hb dX5_degreeOf_75 hl (by decide) rfl (fun ls hl => ?_)
                    refine lv_iinc (v := v7_30 + 1) (lv' := [(7, .int (v7_30 + 1)), (6, .int r_72), (0, .ref o), (2, .int v2_30), (3, .int v3_30), (4, .int v4_30), (5, .int v5_30)]) hx hb dX5_degreeOf_77 hl (k := 6) rfl rfl (by decide) rfl (fun ls hl => ?_)
                    refine lv_goto (tgt := 30) hx hb dX5_degreeOf_80 (by decide) ?_
                    exact ih30 v2_30 v3_30 v4_30 v5_30 r_72 (v7_30 + 1) σ_72 _ _ _ M (lv_sub hl [2, 3, 4, 5, 6, 1, 0] rfl) hf
                  · have hf := hff c1
                    refine lv_iload hx hb dX5_degreeOf_63 (lv_at hl 4 rfl) ?_
                    refine lv_iload hx hb dX5_degreeOf_65 (lv_at hl 6 rfl) ?_
                    refine lv_iadd hx hb dX5_degreeOf_67 ?_
                    refine lv_istore_n (lv' := [(3, .int (v5_30 + v7_30)), (0, .ref o), (2, .int v2_30), (4, .int v4_30), (5, .int v5_30), (6, .int v6_30), (7, .int v7_30)]) hx hb dX5_degreeOf_68 rfl hl (by decide) rfl (fun ls hl => ?_)
                    refine lv_aload_n hx hb dX5_degreeOf_69 rfl (lv_at hl 1 rfl) ?_
                    refine lv_iload hx hb dX5_degreeOf_70 (lv_at hl 5 rfl) ?_
                    refine hm_ci C M hl.1 (As := [.int v6_30]) (rest := []) (hk_parentsOf l D dA o b hB v6_30 σ30 hf) (n := 1) q2377 q2379 qs78 q140 q2380 (by decide +kernel) rfl ⟨Nat.le_of_ble_eq_true rfl, Nat.le_of_ble_eq_true rfl⟩ rfl (Nat.le_of_ble_eq_true rfl) dX5_degreeOf_72 (fun r_72 σ_72 H locs hf M => ?_)
                    refine lv_istore (lv' := [(6, .int r_72), (3, .int (v5_30 + v7_30)), (0, .ref o), (2, .int v2_30), (4, .int v4_30), (5, .int v5_30), (7, .int v7_30)]) hx hb dX5_degreeOf_75 hl (by decide) rfl (fun ls hl => ?_)
                    refine lv_iinc (v := v7_30 + 1) (lv' := [(7, .int (v7_30 + 1)), (6, .int r_72), (3, .int (v5_30 + v7_30)), (0, .ref o), (2, .int v2_30), (4, .int v4_30), (5, .int v5_30)]) hx hb dX5_degreeOf_77 hl (k := 6) rfl rfl (by decide) rfl (fun ls hl => ?_)
                    refine lv_goto (tgt := 30) hx hb dX5_degreeOf_80 (by decide) ?_
                    exact ih30 v2_30 (v5_30 + v7_30) v4_30 v5_30 r_72 (v7_30 + 1) σ_72 _ _ _ M (lv_sub hl [3, 4, 2, 5, 6, 1, 0] rfl) hf
      intro v2_10 v3_10 v4_10 v5_10 σ10 H locs ls M hl hf
      refine lv_iload hx hb dX5_degreeOf_10 (lv_at hl 4 rfl) ?_
      refine lv_bipush (v := 12) hx hb dX5_degreeOf_12 rfl ?_
      obtain ⟨hft, hff⟩ := hf
      refine lv_icmp_ge (tgt := 97) hx hb dX5_degreeOf_14 (by decide) (fun c1 => ?_) (fun c1 => ?_)
      · have hf := hft c1
        refine lv_iload_n hx hb dX5_degreeOf_97 rfl (lv_at hl 2 rfl) ?_
        exact hret _ _ _ _ _ _ dX5_degreeOf_98 M hf
      · have hf := hff c1
        refine lv_iload hx hb dX5_degreeOf_17 (lv_at hl 3 rfl) ?_
        obtain ⟨hft, hff⟩ := hf
        refine lv_if_eq (tgt := 97) hx hb dX5_degreeOf_19 (by decide) (fun c1 => ?_) (fun c1 => ?_)
        · have hf := hft c1
          refine lv_iload_n hx hb dX5_degreeOf_97 rfl (lv_at hl 2 rfl) ?_
          exact hret _ _ _ _ _ _ dX5_degreeOf_98 M hf
        · have hf := hff c1
          refine lv_iconst (v := 1) hx hb dX5_degreeOf_22 rfl ?_
          refine lv_iload_n hx hb dX5_degreeOf_23 rfl (lv_at hl 1 rfl) ?_
          refine lv_ishl hx hb dX5_degreeOf_24 ?_
          refine lv_istore (lv' := [(6, .int ((1 : Int32) <<< (v2_10 &&& 31))), (0, .ref o), (2, .int v2_10), (3, .int v3_10), (4, .int v4_10), (5, .int v5_10)]) hx hb dX5_degreeOf_25 hl (by decide) rfl (fun ls hl => ?_)
          refine lv_iconst (v := 0) hx hb dX5_degreeOf_27 rfl ?_
          refine lv_istore (lv' := [(7, .int 0), (6, .int ((1 : Int32) <<< (v2_10 &&& 31))), (0, .ref o), (2, .int v2_10), (3, .int v3_10), (4, .int v4_10), (5, .int v5_10)]) hx hb dX5_degreeOf_28 hl (by decide) rfl (fun ls hl => ?_)
          obtain ⟨nn, hf⟩ := hf
          exact B30 nn v2_10 v3_10 v4_10 v5_10 ((1 : Int32) <<< (v2_10 &&& 31)) 0 σ10 _ _ _ M (lv_sub hl [2, 3, 4, 5, 6, 1, 0] rfl) hf
  refine lv_iconst (v := (-1)) hx hb dX5_degreeOf_0 rfl ?_
  refine lv_istore_n (lv' := [(3, .int (-1)), (0, .ref o), (1, .int a1), (2, .int a2)]) hx hb dX5_degreeOf_1 rfl hl (by decide) rfl (fun ls hl => ?_)
  refine lv_iconst (v := 1) hx hb dX5_degreeOf_2 rfl ?_
  refine lv_iload_n hx hb dX5_degreeOf_3 rfl (lv_at hl 2 rfl) ?_
  refine lv_ishl hx hb dX5_degreeOf_4 ?_
  refine lv_istore (lv' := [(4, .int ((1 : Int32) <<< (a1 &&& 31))), (3, .int (-1)), (0, .ref o), (1, .int a1), (2, .int a2)]) hx hb dX5_degreeOf_5 hl (by decide) rfl (fun ls hl => ?_)
  refine lv_iconst (v := 0) hx hb dX5_degreeOf_7 rfl ?_
  refine lv_istore (lv' := [(5, .int 0), (4, .int ((1 : Int32) <<< (a1 &&& 31))), (3, .int (-1)), (0, .ref o), (1, .int a1), (2, .int a2)]) hx hb dX5_degreeOf_8 hl (by decide) rfl (fun ls hl => ?_)
  obtain ⟨nn, hf⟩ := hf
  exact B10 nn a2 (-1) ((1 : Int32) <<< (a1 &&& 31)) 0 σ _ _ _ M (lv_sub hl [3, 5, 2, 1, 0] rfl) hf
def hw_degree (a1 : Int32) (a2 : Int32) (σ : hm_S) (Q : Int32 → hm_S → Prop) : Prop := hw_isPerson a1 (hm_sI σ 0 0) (fun r_7 σ_7 => ((r_7 = 0 → Q (-1) σ_7) ∧ (¬ r_7 = 0 → hw_isPerson a2 σ_7 (fun r_15 σ_15 => ((r_15 = 0 → Q (-1) σ_15) ∧ (¬ r_15 = 0 → hw_degreeOf a1 a2 σ_15 (fun r_24 σ_24 => (Q r_24 σ_24))))))))
set_option maxHeartbeats 4000000 in
set_option maxRecDepth 100000 in
theorem hk_degree (l : Launch) (D : va_G) (dA : Nat → ClassId) (o : Nat) (b : Nat → Nat) (hB : hm_D dA o b) (a1 : Int32) (a2 : Int32) (σ : hm_S) {Q : Int32 → hm_S → Prop} (hf : hw_degree a1 a2 σ Q) : Met l yX5_degree (ws_ yX5_degree cX5_degree 3 (some .int)) (hb_R 3 71) (va_Pc [.ref o, .int a1, .int a2] (hm_U D dA o b σ)) (va_Qi Q (hm_U D dA o b) (hm_A o b)) 0 0 (hm_A o b) := by
  refine hm_Mi hB (LV := [(0, .ref o), (1, .int a1), (2, .int a2)]) (by decide) rfl (Nat.le_of_ble_eq_true rfl) (fun p e s m args below meth c ls QQ C M hl hret => ?_)
  have hx := C.1.1
  have hb := C.1.2.1
  refine lv_aload_n hx hb dX5_degree_0 rfl (lv_at hl 0 rfl) ?_
  refine lv_iconst (v := 0) hx hb dX5_degree_1 rfl ?_
  refine hm_put0 C M q2067 dX5_degree_2 (fun H locs M => ?_)
  refine lv_aload_n hx hb dX5_degree_5 rfl (lv_at hl 0 rfl) ?_
  refine lv_iload_n hx hb dX5_degree_6 rfl (lv_at hl 1 rfl) ?_
  refine hm_ci C M hl.1 (As := [.int a1]) (rest := []) (hk_isPerson l D dA o b hB a1 (hm_sI σ 0 0) hf) (n := 1) q2333 q2335 qs69 q140 q2336 (by decide +kernel) rfl ⟨Nat.le_of_ble_eq_true rfl, Nat.le_of_ble_eq_true rfl⟩ rfl (Nat.le_of_ble_eq_true rfl) dX5_degree_7 (fun r_7 σ_7 H locs hf M => ?_)
  obtain ⟨hft, hff⟩ := hf
  refine lv_if_eq (tgt := 30) hx hb dX5_degree_10 (by decide) (fun c1 => ?_) (fun c1 => ?_)
  · have hf := hft c1
    refine lv_iconst (v := (-1)) hx hb dX5_degree_30 rfl ?_
    exact hret _ _ _ _ _ _ dX5_degree_31 M hf
  · have hf := hff c1
    refine lv_aload_n hx hb dX5_degree_13 rfl (lv_at hl 0 rfl) ?_
    refine lv_iload_n hx hb dX5_degree_14 rfl (lv_at hl 2 rfl) ?_
    refine hm_ci C M hl.1 (As := [.int a2]) (rest := []) (hk_isPerson l D dA o b hB a2 σ_7 hf) (n := 1) q2333 q2335 qs69 q140 q2336 (by decide +kernel) rfl ⟨Nat.le_of_ble_eq_true rfl, Nat.le_of_ble_eq_true rfl⟩ rfl (Nat.le_of_ble_eq_true rfl) dX5_degree_15 (fun r_15 σ_15 H locs hf M => ?_)
    obtain ⟨hft, hff⟩ := hf
    refine lv_if_eq (tgt := 30) hx hb dX5_degree_18 (by decide) (fun c1 => ?_) (fun c1 => ?_)
    · have hf := hft c1
      refine lv_iconst (v := (-1)) hx hb dX5_degree_30 rfl ?_
      exact hret _ _ _ _ _ _ dX5_degree_31 M hf
    · have hf := hff c1
      refine lv_aload_n hx hb dX5_degree_21 rfl (lv_at hl 0 rfl) ?_
      refine lv_iload_n hx hb dX5_degree_22 rfl (lv_at hl 1 rfl) ?_
      refine lv_iload_n hx hb dX5_degree_23 rfl (lv_at hl 2 rfl) ?_
      refine hm_ci C M hl.1 (As := [.int a1, .int a2]) (rest := []) (hk_degreeOf l D dA o b hB a1 a2 σ_15 hf) (n := 2) q2373 q2375 qs77 q140 q2376 (by decide +kernel) rfl ⟨Nat.le_of_ble_eq_true rfl, Nat.le_of_ble_eq_true rfl⟩ rfl (Nat.le_of_ble_eq_true rfl) dX5_degree_24 (fun r_24 σ_24 H locs hf M => ?_)
      refine lv_goto (tgt := 31) hx hb dX5_degree_27 (by decide) ?_
      exact hret _ _ _ _ _ _ dX5_degree_31 M hf
def hw_coinsOfAll_b4 : Nat → Int32 → Int32 → hm_S → (Int32 → hm_S → Prop) → Prop
  | 0, _, _, _, _ => False
  | n4 + 1, v1_4, v2_4, σ4, Q => vp_in 0 346 ∧ (((hm_gA σ4 6 0) ≤ v2_4 → Q v1_4 σ4) ∧ (¬ (hm_gA σ4 6 0) ≤ v2_4 → vp_in (105 + v2_4) 346 ∧ (hw_coinsOfAll_b4  n4 (v1_4 + (hm_gA σ4 6 (105 + v2_4))) (v2_4 + 1) σ4 Q)))
def hw_coinsOfAll  (σ : hm_S) (Q : Int32 → hm_S → Prop) : Prop := ∃ n, hw_coinsOfAll_b4  n 0 0 σ Q
set_option maxHeartbeats 4000000 in
set_option maxRecDepth 100000 in
theorem hk_coinsOfAll (l : Launch) (D : va_G) (dA : Nat → ClassId) (o : Nat) (b : Nat → Nat) (hB : hm_D dA o b)  (σ : hm_S) {Q : Int32 → hm_S → Prop} (hf : hw_coinsOfAll  σ Q) : Met l yX5_coinsOfAll (ws_ yX5_coinsOfAll cX5_coinsOfAll 3 (some .int)) (hb_R 0 0) (va_Pc [.ref o] (hm_U D dA o b σ)) (va_Qi Q (hm_U D dA o b) (hm_A o b)) 0 0 (hm_A o b) := by
  refine hm_Mi hB (LV := [(0, .ref o)]) (by decide) rfl (Nat.le_of_ble_eq_true rfl) (fun p e s m args below meth c ls QQ C M hl hret => ?_)
  have hx := C.1.1
  have hb := C.1.2.1
  have B4 : ∀ (n4 : Nat) (v1_4 : Int32) (v2_4 : Int32) (σ4 : hm_S) (H : Heap) (locs : List Loc) (ls : Array Slot), hm_M D dA o b s.heap σ4 H locs → lv_has ls 3 [(0, .ref o), (1, .int v1_4), (2, .int v2_4)] → hw_coinsOfAll_b4  n4 v1_4 v2_4 σ4 Q → W p l e (hb_R 0 0) s m args below meth c H locs 0 0 QQ (F0 m 4 ls []) := by
    intro n4
    induction n4 with
    | zero => intro v1_4 v2_4 σ4 H locs ls M hl hf; exact hf.elim
    | succ n4 ih4 =>
      intro v1_4 v2_4 σ4 H locs ls M hl hf
      refine lv_iload_n hx hb dX5_coinsOfAll_4 rfl (lv_at hl 2 rfl) ?_
      refine lv_aload_n hx hb dX5_coinsOfAll_5 rfl (lv_at hl 0 rfl) ?_
      refine hm_get C M 6 (by decide) q2073 (v := .ref (b 6)) rfl dX5_coinsOfAll_6 ?_
      refine lv_iconst (v := 0) hx hb dX5_coinsOfAll_9 rfl ?_
      obtain ⟨g1, hf⟩ := hf
      refine hm_ald6 C M g1 dX5_coinsOfAll_10 ?_
      obtain ⟨hft, hff⟩ := hf
      refine lv_icmp_ge (tgt := 32) hx hb dX5_coinsOfAll_11 (by decide) (fun c1 => ?_) (fun c1 => ?_)
      · have hf := hft c1
        refine lv_iload_n hx hb dX5_coinsOfAll_32 rfl (lv_at hl 1 rfl) ?_
        exact hret _ _ _ _ _ _ dX5_coinsOfAll_33 M hf
      · have hf := hff c1
        refine lv_iload_n hx hb dX5_coinsOfAll_14 rfl (lv_at hl 1 rfl) ?_
        refine lv_aload_n hx hb dX5_coinsOfAll_15 rfl (lv_at hl 0 rfl) ?_
        refine hm_get C M 6 (by decide) q2073 (v := .ref (b 6)) rfl dX5_coinsOfAll_16 ?_
        refine lv_bipush (v := 105) hx hb dX5_coinsOfAll_19 rfl ?_
        refine lv_iload_n hx hb dX5_coinsOfAll_21 rfl (lv_at hl 2 rfl) ?_
        refine lv_iadd hx hb dX5_coinsOfAll_22 ?_
        obtain ⟨g1, hf⟩ := hf
        refine hm_ald6 C M g1 dX5_coinsOfAll_23 ?_
        refine lv_iadd hx hb dX5_coinsOfAll_24 ?_
        refine lv_istore_n (lv' := [(1, .int (v1_4 + (hm_gA σ4 6 (105 + v2_4)))), (0, .ref o), (2, .int v2_4)]) hx hb dX5_coinsOfAll_25 rfl hl (by decide) rfl (fun ls hl => ?_)
        refine lv_iinc (v := v2_4 + 1) (lv' := [(2, .int (v2_4 + 1)), (1, .int (v1_4 + (hm_gA σ4 6 (105 + v2_4)))), (0, .ref o)]) hx hb dX5_coinsOfAll_26 hl (k := 2) rfl rfl (by decide) rfl (fun ls hl => ?_)
        refine lv_goto (tgt := 4) hx hb dX5_coinsOfAll_29 (by decide) ?_
        exact ih4 (v1_4 + (hm_gA σ4 6 (105 + v2_4))) (v2_4 + 1) σ4 _ _ _ M (lv_sub hl [2, 1, 0] rfl) hf
  refine lv_iconst (v := 0) hx hb dX5_coinsOfAll_0 rfl ?_
  refine lv_istore_n (lv' := [(1, .int 0), (0, .ref o)]) hx hb dX5_coinsOfAll_1 rfl hl (by decide) rfl (fun ls hl => ?_)
  refine lv_iconst (v := 0) hx hb dX5_coinsOfAll_2 rfl ?_
  refine lv_istore_n (lv' := [(2, .int 0), (1, .int 0), (0, .ref o)]) hx hb dX5_coinsOfAll_3 rfl hl (by decide) rfl (fun ls hl => ?_)
  obtain ⟨nn, hf⟩ := hf
  exact B4 nn 0 0 σ _ _ _ M (lv_sub hl [2, 1, 0] rfl) hf
def hw_now_b9 : Nat → Int32 → Int32 → Int32 → hm_S → (Int32 → hm_S → Prop) → Prop
  | 0, _, _, _, _, _ => False
  | n9 + 1, v1_9, v2_9, v3_9, σ9, Q => vp_in 0 346 ∧ (((hm_gA σ9 6 0) ≤ v3_9 → (v1_9 = 0 → vp_in 100 346 ∧ (Q (hm_gA σ9 6 100) σ9)) ∧ (v1_9 = 1 → hw_living  σ9 (fun r_101 σ_101 => (Q r_101 σ_101))) ∧ (v1_9 = 2 → Q v2_9 σ9) ∧ (v1_9 = 3 → vp_in 102 346 ∧ (Q (hm_gA σ9 6 102) σ9)) ∧ (v1_9 = 4 → vp_in 104 346 ∧ (Q (hm_gA σ9 6 104) σ9)) ∧ (v1_9 = 5 → hw_coinsOfAll  σ9 (fun r_124 σ_124 => (Q r_124 σ_124))) ∧ (v1_9 = 6 → vp_in 103 346 ∧ (Q (hm_gA σ9 6 103) σ9)) ∧ (¬ v1_9 = 0 → ¬ v1_9 = 1 → ¬ v1_9 = 2 → ¬ v1_9 = 3 → ¬ v1_9 = 4 → ¬ v1_9 = 5 → ¬ v1_9 = 6 → Q (-1) σ9)) ∧ (¬ (hm_gA σ9 6 0) ≤ v3_9 → vp_in (117 + v3_9) 346 ∧ (((hm_gA σ9 6 (117 + v3_9)) ≤ 0 → hw_now_b9  n9 v1_9 (v2_9 ||| 0) (v3_9 + 1) σ9 Q) ∧ (¬ (hm_gA σ9 6 (117 + v3_9)) ≤ 0 → hw_now_b9  n9 v1_9 (v2_9 ||| ((1 : Int32) <<< (v3_9 &&& 31))) (v3_9 + 1) σ9 Q))))
def hw_now (a1 : Int32) (σ : hm_S) (Q : Int32 → hm_S → Prop) : Prop := ∃ n, hw_now_b9  n a1 0 0 (hm_sI σ 0 0) Q
set_option maxHeartbeats 4000000 in
set_option maxRecDepth 100000 in
theorem hk_now (l : Launch) (D : va_G) (dA : Nat → ClassId) (o : Nat) (b : Nat → Nat) (hB : hm_D dA o b) (a1 : Int32) (σ : hm_S) {Q : Int32 → hm_S → Prop} (hf : hw_now a1 σ Q) : Met l yX5_now (ws_ yX5_now cX5_now 4 (some .int)) (hb_R 1 22) (va_Pc [.ref o, .int a1] (hm_U D dA o b σ)) (va_Qi Q (hm_U D dA o b) (hm_A o b)) 0 0 (hm_A o b) := by
  refine hm_Mi hB (LV := [(0, .ref o), (1, .int a1)]) (by decide) rfl (Nat.le_of_ble_eq_true rfl) (fun p e s m args below meth c ls QQ C M hl hret => ?_)
  have hx := C.1.1
  have hb := C.1.2.1
  have B9 : ∀ (n9 : Nat) (v1_9 : Int32) (v2_9 : Int32) (v3_9 : Int32) (σ9 : hm_S) (H : Heap) (locs : List Loc) (ls : Array Slot), hm_M D dA o b s.heap σ9 H locs → lv_has ls 4 [(0, .ref o), (1, .int v1_9), (2, .int v2_9), (3, .int v3_9)] → hw_now_b9  n9 v1_9 v2_9 v3_9 σ9 Q → W p l e (hb_R 1 22) s m args below meth c H locs 0 0 QQ (F0 m 9 ls []) := by
    intro n9
    induction n9 with
    | zero => intro v1_9 v2_9 v3_9 σ9 H locs ls M hl hf; exact hf.elim
    | succ n9 ih9 =>
      intro v1_9 v2_9 v3_9 σ9 H locs ls M hl hf
      refine lv_iload_n hx hb dX5_now_9 rfl (lv_at hl 3 rfl) ?_
      refine lv_aload_n hx hb dX5_now_10 rfl (lv_at hl 0 rfl) ?_
      refine hm_get C M 6 (by decide) q2073 (v := .ref (b 6)) rfl dX5_now_11 ?_
      refine lv_iconst (v := 0) hx hb dX5_now_14 rfl ?_
      obtain ⟨g1, hf⟩ := hf
      refine hm_ald6 C M g1 dX5_now_15 ?_
      obtain ⟨hft, hff⟩ := hf
      refine lv_icmp_ge (tgt := 47) hx hb dX5_now_16 (by decide) (fun c1 => ?_) (fun c1 => ?_)
      · have hf := hft c1
        refine lv_iload_n hx hb dX5_now_47 rfl (lv_at hl 1 rfl) ?_
        obtain ⟨hf0, hf1, hf2, hf3, hf4, hf5, hf6, hf7⟩ := hf
        by_cases c0 : v1_9 = 0
        · have hf := hf0 c0
          refine hb_sw hx hb 0 c0 dX5_now_48 (by decide) (by decide) rfl (tgt := 92) (by decide) ?_
          refine lv_aload_n hx hb dX5_now_92 rfl (lv_at hl 0 rfl) ?_
          refine hm_get C M 6 (by decide) q2073 (v := .ref (b 6)) rfl dX5_now_93 ?_
          refine lv_bipush (v := 100) hx hb dX5_now_96 rfl ?_
          obtain ⟨g1, hf⟩ := hf
          refine hm_ald6 C M g1 dX5_now_98 ?_
          exact hret _ _ _ _ _ _ dX5_now_99 M hf
        by_cases c1 : v1_9 = 1
        · have hf := hf1 c1
          refine hb_sw hx hb 1 c1 dX5_now_48 (by decide) (by decide) rfl (tgt := 100) (by decide) ?_
          refine lv_aload_n hx hb dX5_now_100 rfl (lv_at hl 0 rfl) ?_
          refine hm_ci C M hl.1 (As := []) (rest := []) (hk_living l D dA o b hB  σ9 hf) (n := 0) q2357 q2359 qs75 q140 q2360 (by decide +kernel) rfl ⟨Nat.le_of_ble_eq_true rfl, Nat.le_of_ble_eq_true rfl⟩ rfl (Nat.le_of_ble_eq_true rfl) dX5_now_101 (fun r_101 σ_101 H locs hf M => ?_)
          exact hret _ _ _ _ _ _ dX5_now_104 M hf
        by_cases c2 : v1_9 = 2
        · have hf := hf2 c2
          refine hb_sw hx hb 2 c2 dX5_now_48 (by decide) (by decide) rfl (tgt := 105) (by decide) ?_
          refine lv_iload_n hx hb dX5_now_105 rfl (lv_at hl 2 rfl) ?_
          exact hret _ _ _ _ _ _ dX5_now_106 M hf
        by_cases c3 : v1_9 = 3
        · have hf := hf3 c3
          refine hb_sw hx hb 3 c3 dX5_now_48 (by decide) (by decide) rfl (tgt := 107) (by decide) ?_
          refine lv_aload_n hx hb dX5_now_107 rfl (lv_at hl 0 rfl) ?_
          refine hm_get C M 6 (by decide) q2073 (v := .ref (b 6)) rfl dX5_now_108 ?_
          refine lv_bipush (v := 102) hx hb dX5_now_111 rfl ?_
          obtain ⟨g1, hf⟩ := hf
          refine hm_ald6 C M g1 dX5_now_113 ?_
          exact hret _ _ _ _ _ _ dX5_now_114 M hf
        by_cases c4 : v1_9 = 4
        · have hf := hf4 c4
          refine hb_sw hx hb 4 c4 dX5_now_48 (by decide) (by decide) rfl (tgt := 115) (by decide) ?_
          refine lv_aload_n hx hb dX5_now_115 rfl (lv_at hl 0 rfl) ?_
          refine hm_get C M 6 (by decide) q2073 (v := .ref (b 6)) rfl dX5_now_116 ?_
          refine lv_bipush (v := 104) hx hb dX5_now_119 rfl ?_
          obtain ⟨g1, hf⟩ := hf
          refine hm_ald6 C M g1 dX5_now_121 ?_
          exact hret _ _ _ _ _ _ dX5_now_122 M hf
        by_cases c5 : v1_9 = 5
        · have hf := hf5 c5
          refine hb_sw hx hb 5 c5 dX5_now_48 (by decide) (by decide) rfl (tgt := 123) (by decide) ?_
          refine lv_aload_n hx hb dX5_now_123 rfl (lv_at hl 0 rfl) ?_
          refine hm_ci C M hl.1 (As := []) (rest := []) (hk_coinsOfAll l D dA o b hB  σ9 hf) (n := 0) q2385 q2387 qs79 q140 q2388 (by decide +kernel) rfl ⟨Nat.le_of_ble_eq_true rfl, Nat.le_of_ble_eq_true rfl⟩ rfl (Nat.le_of_ble_eq_true rfl) dX5_now_124 (fun r_124 σ_124 H locs hf M => ?_)
          exact hret _ _ _ _ _ _ dX5_now_127 M hf
        by_cases c6 : v1_9 = 6
        · have hf := hf6 c6
          refine hb_sw hx hb 6 c6 dX5_now_48 (by decide) (by decide) rfl (tgt := 128) (by decide) ?_
          refine lv_aload_n hx hb dX5_now_128 rfl (lv_at hl 0 rfl) ?_
          refine hm_get C M 6 (by decide) q2073 (v := .ref (b 6)) rfl dX5_now_129 ?_
          refine lv_bipush (v := 103) hx hb dX5_now_132 rfl ?_
          obtain ⟨g1, hf⟩ := hf
          refine hm_ald6 C M g1 dX5_now_134 ?_
          exact hret _ _ _ _ _ _ dX5_now_135 M hf
        have hf := hf7 c0 c1 c2 c3 c4 c5 c6
        refine lv_tableOut (tgt := 136) hx hb dX5_now_48 (hb_swo (fun j j1 j2 => by
          have j3 : j = 0 ∨ j = 1 ∨ j = 2 ∨ j = 3 ∨ j = 4 ∨ j = 5 ∨ j = 6 := by omega
          rcases j3 with rfl | rfl | rfl | rfl | rfl | rfl | rfl
          · exact c0
          · exact c1
          · exact c2
          · exact c3
          · exact c4
          · exact c5
          · exact c6
          )) (by decide) ?_
        refine lv_iconst (v := (-1)) hx hb dX5_now_136 rfl ?_
        exact hret _ _ _ _ _ _ dX5_now_137 M hf
      · have hf := hff c1
        refine lv_iload_n hx hb dX5_now_19 rfl (lv_at hl 2 rfl) ?_
        refine lv_aload_n hx hb dX5_now_20 rfl (lv_at hl 0 rfl) ?_
        refine hm_get C M 6 (by decide) q2073 (v := .ref (b 6)) rfl dX5_now_21 ?_
        refine lv_bipush (v := 117) hx hb dX5_now_24 rfl ?_
        refine lv_iload_n hx hb dX5_now_26 rfl (lv_at hl 3 rfl) ?_
        refine lv_iadd hx hb dX5_now_27 ?_
        obtain ⟨g1, hf⟩ := hf
        refine hm_ald6 C M g1 dX5_now_28 ?_
        obtain ⟨hft, hff⟩ := hf
        refine lv_if_le (tgt := 38) hx hb dX5_now_29 (by decide) (fun c1 => ?_) (fun c1 => ?_)
        · have hf := hft c1
          refine lv_iconst (v := 0) hx hb dX5_now_38 rfl ?_
          refine lv_ior hx hb dX5_now_39 ?_
          refine lv_istore_n (lv' := [(2, .int (v2_9 ||| 0)), (0, .ref o), (1, .int v1_9), (3, .int v3_9)]) hx hb dX5_now_40 rfl hl (by decide) rfl (fun ls hl => ?_)
          refine lv_iinc (v := v3_9 + 1) (lv' := [(3, .int (v3_9 + 1)), (2, .int (v2_9 ||| 0)), (0, .ref o), (1, .int v1_9)]) hx hb dX5_now_41 hl (k := 3) rfl rfl (by decide) rfl (fun ls hl => ?_)
          refine lv_goto (tgt := 9) hx hb dX5_now_44 (by decide) ?_
          exact ih9 v1_9 (v2_9 ||| 0) (v3_9 + 1) σ9 _ _ _ M (lv_sub hl [2, 3, 1, 0] rfl) hf
        · have hf := hff c1
          refine lv_iconst (v := 1) hx hb dX5_now_32 rfl ?_
          refine lv_iload_n hx hb dX5_now_33 rfl (lv_at hl 3 rfl) ?_
          refine lv_ishl hx hb dX5_now_34 ?_
          refine lv_goto (tgt := 39) hx hb dX5_now_35 (by decide) ?_
          refine lv_ior hx hb dX5_now_39 ?_
          refine lv_istore_n (lv' := [(2, .int (v2_9 ||| ((1 : Int32) <<< (v3_9 &&& 31)))), (0, .ref o), (1, .int v1_9), (3, .int v3_9)]) hx hb dX5_now_40 rfl hl (by decide) rfl (fun ls hl => ?_)
          refine lv_iinc (v := v3_9 + 1) (lv' := [(3, .int (v3_9 + 1)), (2, .int (v2_9 ||| ((1 : Int32) <<< (v3_9 &&& 31)))), (0, .ref o), (1, .int v1_9)]) hx hb dX5_now_41 hl (k := 3) rfl rfl (by decide) rfl (fun ls hl => ?_)
          refine lv_goto (tgt := 9) hx hb dX5_now_44 (by decide) ?_
          exact ih9 v1_9 (v2_9 ||| ((1 : Int32) <<< (v3_9 &&& 31))) (v3_9 + 1) σ9 _ _ _ M (lv_sub hl [2, 3, 1, 0] rfl) hf
  refine lv_aload_n hx hb dX5_now_0 rfl (lv_at hl 0 rfl) ?_
  refine lv_iconst (v := 0) hx hb dX5_now_1 rfl ?_
  refine hm_put0 C M q2067 dX5_now_2 (fun H locs M => ?_)
  refine lv_iconst (v := 0) hx hb dX5_now_5 rfl ?_
  refine lv_istore_n (lv' := [(2, .int 0), (0, .ref o), (1, .int a1)]) hx hb dX5_now_6 rfl hl (by decide) rfl (fun ls hl => ?_)
  refine lv_iconst (v := 0) hx hb dX5_now_7 rfl ?_
  refine lv_istore_n (lv' := [(3, .int 0), (2, .int 0), (0, .ref o), (1, .int a1)]) hx hb dX5_now_8 rfl hl (by decide) rfl (fun ls hl => ?_)
  obtain ⟨nn, hf⟩ := hf
  exact B9 nn a1 0 0 (hm_sI σ 0 0) _ _ _ M (lv_sub hl [2, 3, 1, 0] rfl) hf
def hw_heaps (a1 : Int32) (a2 : Int32) (σ : hm_S) (Q : hm_S → Prop) : Prop := (¬ a2 = 0 → vp_in (hm_gI σ 23) 512 ∧ (vp_in (hm_gI (hm_sA σ 21 (hm_gI σ 23) a1) 23) 512 ∧ (Q (hm_sI (hm_sA (hm_sA σ 21 (hm_gI σ 23) a1) 22 (hm_gI (hm_sA σ 21 (hm_gI σ 23) a1) 23) a2) 23 ((hm_gI (hm_sA (hm_sA σ 21 (hm_gI σ 23) a1) 22 (hm_gI (hm_sA σ 21 (hm_gI σ 23) a1) 23) a2) 23) + 1))))) ∧ (a2 = 0 → Q σ)
set_option maxHeartbeats 4000000 in
set_option maxRecDepth 100000 in
theorem hk_heaps (l : Launch) (D : va_G) (dA : Nat → ClassId) (o : Nat) (b : Nat → Nat) (hB : hm_D dA o b) (a1 : Int32) (a2 : Int32) (σ : hm_S) {Q : hm_S → Prop} (hf : hw_heaps a1 a2 σ Q) : Met l yX5_heaps (ws_ yX5_heaps cX5_heaps 3 none) (hb_R 0 0) (va_Pc [.ref o, .int a1, .int a2] (hm_U D dA o b σ)) (va_Qv Q (hm_U D dA o b) (hm_A o b)) 0 0 (hm_A o b) := by
  refine hm_Mv hB (LV := [(0, .ref o), (1, .int a1), (2, .int a2)]) (by decide) rfl (Nat.le_of_ble_eq_true rfl) (fun p e s m args below meth c ls QQ C M hl hret => ?_)
  have hx := C.1.1
  have hb := C.1.2.1
  refine lv_iload_n hx hb dX5_heaps_0 rfl (lv_at hl 2 rfl) ?_
  obtain ⟨hft, hff⟩ := hf
  refine lv_if_ne (tgt := 5) hx hb dX5_heaps_1 (by decide) (fun c1 => ?_) (fun c1 => ?_)
  · have hf := hft c1
    refine lv_aload_n hx hb dX5_heaps_5 rfl (lv_at hl 0 rfl) ?_
    refine hm_get C M 21 (by decide) q2088 (v := .ref (b 21)) rfl dX5_heaps_6 ?_
    refine lv_aload_n hx hb dX5_heaps_9 rfl (lv_at hl 0 rfl) ?_
    refine hm_get C M 23 (by decide) q2090 (v := .int (hm_gI σ 23)) rfl dX5_heaps_10 ?_
    refine lv_iload_n hx hb dX5_heaps_13 rfl (lv_at hl 1 rfl) ?_
    obtain ⟨g1, hf⟩ := hf
    refine hm_ast21 C M g1 dX5_heaps_14 (fun H locs M => ?_)
    refine lv_aload_n hx hb dX5_heaps_15 rfl (lv_at hl 0 rfl) ?_
    refine hm_get C M 22 (by decide) q2089 (v := .ref (b 22)) rfl dX5_heaps_16 ?_
    refine lv_aload_n hx hb dX5_heaps_19 rfl (lv_at hl 0 rfl) ?_
    refine hm_get C M 23 (by decide) q2090 (v := .int (hm_gI (hm_sA σ 21 (hm_gI σ 23) a1) 23)) rfl dX5_heaps_20 ?_
    refine lv_iload_n hx hb dX5_heaps_23 rfl (lv_at hl 2 rfl) ?_
    obtain ⟨g1, hf⟩ := hf
    refine hm_ast22 C M g1 dX5_heaps_24 (fun H locs M => ?_)
    refine lv_aload_n hx hb dX5_heaps_25 rfl (lv_at hl 0 rfl) ?_
    refine lv_dup hx hb dX5_heaps_26 rfl ?_
    refine hm_get C M 23 (by decide) q2090 (v := .int (hm_gI (hm_sA (hm_sA σ 21 (hm_gI σ 23) a1) 22 (hm_gI (hm_sA σ 21 (hm_gI σ 23) a1) 23) a2) 23)) rfl dX5_heaps_27 ?_
    refine lv_iconst (v := 1) hx hb dX5_heaps_30 rfl ?_
    refine lv_iadd hx hb dX5_heaps_31 ?_
    refine hm_put23 C M q2090 dX5_heaps_32 (fun H locs M => ?_)
    exact hret _ _ _ _ _ dX5_heaps_35 M hf
  · have hf := hff c1
    exact hret _ _ _ _ _ dX5_heaps_4 M hf
def hw_parts_b68 (k18 : Int32 → Int32 → Int32 → Int32 → hm_S → Prop) (v1_68 : Int32) (v4_68 : Int32) (v6_68 : Int32) (v7_68 : Int32) (t0_68 : Int32) (t1_68 : Int32) (σ68 : hm_S) (Q : hm_S → Prop) : Prop := hw_isLiving v6_68 σ68 (fun r_74 σ_74 => ((r_74 = 0 → hw_childrenOf ((1 : Int32) <<< (v6_68 &&& 31)) σ_74 (fun r_104 σ_104 => (hw_heaps r_104 v7_68 σ_104 (fun σ_109 => (k18 v1_68 v4_68 (t0_68 - t1_68) (v6_68 + 1) σ_109))))) ∧ (¬ r_74 = 0 → vp_in (105 + v6_68) 346 ∧ (vp_in (105 + v6_68) 346 ∧ (k18 v1_68 v4_68 (t0_68 - t1_68) (v6_68 + 1) (hm_sA σ_74 6 (105 + v6_68) ((hm_gA σ_74 6 (105 + v6_68)) + v7_68)))))))
def hw_parts_b53 (k18 : Int32 → Int32 → Int32 → Int32 → hm_S → Prop) (v1_53 : Int32) (v4_53 : Int32) (v5_53 : Int32) (v6_53 : Int32) (t0_53 : Int32) (t1_53 : Int32) (σ53 : hm_S) (Q : hm_S → Prop) : Prop := (v5_53 ≤ 0 → hw_parts_b68 k18 v1_53 v4_53 v6_53 (t0_53 + t1_53) v5_53 0 σ53 Q) ∧ (¬ v5_53 ≤ 0 → hw_parts_b68 k18 v1_53 v4_53 v6_53 (t0_53 + t1_53) v5_53 1 σ53 Q)
def hw_parts_b18 : Nat → Int32 → Int32 → Int32 → Int32 → hm_S → (hm_S → Prop) → Prop
  | 0, _, _, _, _, _, _ => False
  | n18 + 1, v1_18, v4_18, v5_18, v6_18, σ18, Q => vp_in 0 346 ∧ (((hm_gA σ18 6 0) ≤ v6_18 → Q σ18) ∧ (¬ (hm_gA σ18 6 0) ≤ v6_18 → hw_bitOf v1_18 v6_18 σ18 (fun r_32 σ_32 => ((¬ r_32 = 0 → (v5_18 ≤ 0 → hw_parts_b53 (fun (u0 : Int32) (u1 : Int32) (u2 : Int32) (u3 : Int32) (τ : hm_S) => hw_parts_b18  n18 u0 u1 u2 u3 τ Q) v1_18 v4_18 v5_18 v6_18 v4_18 0 σ_32 Q) ∧ (¬ v5_18 ≤ 0 → hw_parts_b53 (fun (u0 : Int32) (u1 : Int32) (u2 : Int32) (u3 : Int32) (τ : hm_S) => hw_parts_b18  n18 u0 u1 u2 u3 τ Q) v1_18 v4_18 v5_18 v6_18 v4_18 1 σ_32 Q)) ∧ (r_32 = 0 → hw_parts_b18  n18 v1_18 v4_18 v5_18 (v6_18 + 1) σ_32 Q)))))
def hw_parts (a1 : Int32) (a2 : Int32) (σ : hm_S) (Q : hm_S → Prop) : Prop := hw_bits a1 σ (fun r_1 σ_1 => (¬ r_1 = 0 ∧ (¬ r_1 = 0 ∧ (∃ n, hw_parts_b18  n a1 (a2 / r_1) (a2 - a2 / r_1 * r_1) 0 σ_1 Q))))
set_option maxHeartbeats 4000000 in
set_option maxRecDepth 100000 in
theorem hk_parts (l : Launch) (D : va_G) (dA : Nat → ClassId) (o : Nat) (b : Nat → Nat) (hB : hm_D dA o b) (a1 : Int32) (a2 : Int32) (σ : hm_S) {Q : hm_S → Prop} (hf : hw_parts a1 a2 σ Q) : Met l yX5_parts (ws_ yX5_parts cX5_parts 8 none) (hb_R 2 42) (va_Pc [.ref o, .int a1, .int a2] (hm_U D dA o b σ)) (va_Qv Q (hm_U D dA o b) (hm_A o b)) 0 0 (hm_A o b) := by
  refine hm_Mv hB (LV := [(0, .ref o), (1, .int a1), (2, .int a2)]) (by decide) rfl (Nat.le_of_ble_eq_true rfl) (fun p e s m args below meth c ls QQ C M hl hret => ?_)
  have hx := C.1.1
  have hb := C.1.2.1
  have B18 : ∀ (n18 : Nat) (v1_18 : Int32) (v4_18 : Int32) (v5_18 : Int32) (v6_18 : Int32) (σ18 : hm_S) (H : Heap) (locs : List Loc) (ls : Array Slot), hm_M D dA o b s.heap σ18 H locs → lv_has ls 8 [(0, .ref o), (1, .int v1_18), (4, .int v4_18), (5, .int v5_18), (6, .int v6_18)] → hw_parts_b18  n18 v1_18 v4_18 v5_18 v6_18 σ18 Q → W p l e (hb_R 2 42) s m args below meth c H locs 0 0 QQ (F0 m 18 ls []) := by
    intro n18
    induction n18 with
    | zero => intro v1_18 v4_18 v5_18 v6_18 σ18 H locs ls M hl hf; exact hf.elim
    | succ n18 ih18 =>
      have B68 : ∀ (v1_68 : Int32) (v4_68 : Int32) (v6_68 : Int32) (v7_68 : Int32) (t0_68 : Int32) (t1_68 : Int32) (σ68 : hm_S) (H : Heap) (locs : List Loc) (ls : Array Slot), hm_M D dA o b s.heap σ68 H locs → lv_has ls 8 [(0, .ref o), (1, .int v1_68), (4, .int v4_68), (6, .int v6_68), (7, .int v7_68)] → hw_parts_b68 (fun (u0 : Int32) (u1 : Int32) (u2 : Int32) (u3 : Int32) (τ : hm_S) => hw_parts_b18  n18 u0 u1 u2 u3 τ Q) v1_68 v4_68 v6_68 v7_68 t0_68 t1_68 σ68 Q → W p l e (hb_R 2 42) s m args below meth c H locs 0 0 QQ (F0 m 68 ls [.int t1_68, .int t0_68]) := by
        intro v1_68 v4_68 v6_68 v7_68 t0_68 t1_68 σ68 H locs ls M hl hf
        refine lv_isub hx hb dX5_parts_68 ?_
        refine lv_istore (lv' := [(5, .int (t0_68 - t1_68)), (0, .ref o), (1, .int v1_68), (4, .int v4_68), (6, .int v6_68), (7, .int v7_68)]) hx hb dX5_parts_69 hl (by decide) rfl (fun ls hl => ?_)
        refine lv_aload_n hx hb dX5_parts_71 rfl (lv_at hl 1 rfl) ?_
        refine lv_iload hx hb dX5_parts_72 (lv_at hl 4 rfl) ?_
        refine hm_ci C M hl.1 (As := [.int v6_68]) (rest := []) (hk_isLiving l D dA o b hB v6_68 σ68 hf) (n := 1) q2341 q2343 qs71 q140 q2344 (by decide +kernel) rfl ⟨Nat.le_of_ble_eq_true rfl, Nat.le_of_ble_eq_true rfl⟩ rfl (Nat.le_of_ble_eq_true rfl) dX5_parts_74 (fun r_74 σ_74 H locs hf M => ?_)
        obtain ⟨hft, hff⟩ := hf
        refine lv_if_eq (tgt := 98) hx hb dX5_parts_77 (by decide) (fun c1 => ?_) (fun c1 => ?_)
        · have hf := hft c1
          refine lv_aload_n hx hb dX5_parts_98 rfl (lv_at hl 1 rfl) ?_
          refine lv_aload_n hx hb dX5_parts_99 rfl (lv_at hl 1 rfl) ?_
          refine lv_iconst (v := 1) hx hb dX5_parts_100 rfl ?_
          refine lv_iload hx hb dX5_parts_101 (lv_at hl 4 rfl) ?_
          refine lv_ishl hx hb dX5_parts_103 ?_
          refine hm_ci C M hl.1 (As := [.int ((1 : Int32) <<< (v6_68 &&& 31))]) (rest := [.ref o]) (hk_childrenOf l D dA o b hB ((1 : Int32) <<< (v6_68 &&& 31)) σ_74 hf) (n := 1) q2345 q2347 qs72 q140 q2348 (by decide +kernel) rfl ⟨Nat.le_of_ble_eq_true rfl, Nat.le_of_ble_eq_true rfl⟩ rfl (Nat.le_of_ble_eq_true rfl) dX5_parts_104 (fun r_104 σ_104 H locs hf M => ?_)
          refine lv_iload hx hb dX5_parts_107 (lv_at hl 5 rfl) ?_
          refine hm_cv C M hl.1 (As := [.int r_104, .int v7_68]) (rest := []) (hk_heaps l D dA o b hB r_104 v7_68 σ_104 hf) (n := 2) q2420 q2422 qs86 q140 q2423 (by decide +kernel) rfl ⟨Nat.le_of_ble_eq_true rfl, Nat.le_of_ble_eq_true rfl⟩ rfl (Nat.le_of_ble_eq_true rfl) dX5_parts_109 (fun σ_109 H locs hf M => ?_)
          refine lv_iinc (v := v6_68 + 1) (lv' := [(6, .int (v6_68 + 1)), (5, .int (t0_68 - t1_68)), (0, .ref o), (1, .int v1_68), (4, .int v4_68), (7, .int v7_68)]) hx hb dX5_parts_112 hl (k := 4) rfl rfl (by decide) rfl (fun ls hl => ?_)
          refine lv_goto (tgt := 18) hx hb dX5_parts_115 (by decide) ?_
          exact ih18 v1_68 v4_68 (t0_68 - t1_68) (v6_68 + 1) σ_109 _ _ _ M (lv_sub hl [2, 3, 4, 1, 0] rfl) hf
        · have hf := hff c1
          refine lv_aload_n hx hb dX5_parts_80 rfl (lv_at hl 1 rfl) ?_
          refine hm_get C M 6 (by decide) q2073 (v := .ref (b 6)) rfl dX5_parts_81 ?_
          refine lv_bipush (v := 105) hx hb dX5_parts_84 rfl ?_
          refine lv_iload hx hb dX5_parts_86 (lv_at hl 4 rfl) ?_
          refine lv_iadd hx hb dX5_parts_88 ?_
          refine lv_dup2_11 hx hb dX5_parts_89 rfl rfl ?_
          obtain ⟨g1, hf⟩ := hf
          refine hm_ald6 C M g1 dX5_parts_90 ?_
          refine lv_iload hx hb dX5_parts_91 (lv_at hl 5 rfl) ?_
          refine lv_iadd hx hb dX5_parts_93 ?_
          obtain ⟨g1, hf⟩ := hf
          refine hm_ast6 C M g1 dX5_parts_94 (fun H locs M => ?_)
          refine lv_goto (tgt := 112) hx hb dX5_parts_95 (by decide) ?_
          refine lv_iinc (v := v6_68 + 1) (lv' := [(6, .int (v6_68 + 1)), (5, .int (t0_68 - t1_68)), (0, .ref o), (1, .int v1_68), (4, .int v4_68), (7, .int v7_68)]) hx hb dX5_parts_112 hl (k := 4) rfl rfl (by decide) rfl (fun ls hl => ?_)
          refine lv_goto (tgt := 18) hx hb dX5_parts_115 (by decide) ?_
          exact ih18 v1_68 v4_68 (t0_68 - t1_68) (v6_68 + 1) (hm_sA σ_74 6 (105 + v6_68) ((hm_gA σ_74 6 (105 + v6_68)) + v7_68)) _ _ _ M (lv_sub hl [2, 3, 4, 1, 0] rfl) hf
      have B53 : ∀ (v1_53 : Int32) (v4_53 : Int32) (v5_53 : Int32) (v6_53 : Int32) (t0_53 : Int32) (t1_53 : Int32) (σ53 : hm_S) (H : Heap) (locs : List Loc) (ls : Array Slot), hm_M D dA o b s.heap σ53 H locs → lv_has ls 8 [(0, .ref o), (1, .int v1_53), (4, .int v4_53), (5, .int v5_53), (6, .int v6_53)] → hw_parts_b53 (fun (u0 : Int32) (u1 : Int32) (u2 : Int32) (u3 : Int32) (τ : hm_S) => hw_parts_b18  n18 u0 u1 u2 u3 τ Q) v1_53 v4_53 v5_53 v6_53 t0_53 t1_53 σ53 Q → W p l e (hb_R 2 42) s m args below meth c H locs 0 0 QQ (F0 m 53 ls [.int t1_53, .int t0_53]) := by
        intro v1_53 v4_53 v5_53 v6_53 t0_53 t1_53 σ53 H locs ls M hl hf
        refine lv_iadd hx hb dX5_parts_53 ?_
        refine lv_istore (lv' := [(7, .int (t0_53 + t1_53)), (0, .ref o), (1, .int v1_53), (4, .int v4_53), (5, .int v5_53), (6, .int v6_53)]) hx hb dX5_parts_54 hl (by decide) rfl (fun ls hl => ?_)
        refine lv_iload hx hb dX5_parts_56 (lv_at hl 4 rfl) ?_
        refine lv_iload hx hb dX5_parts_58 (lv_at hl 4 rfl) ?_
        obtain ⟨hft, hff⟩ := hf
        refine lv_if_le (tgt := 67) hx hb dX5_parts_60 (by decide) (fun c1 => ?_) (fun c1 => ?_)
        · have hf := hft c1
          refine lv_iconst (v := 0) hx hb dX5_parts_67 rfl ?_
          exact B68 v1_53 v4_53 v6_53 (t0_53 + t1_53) v5_53 0 σ53 _ _ _ M (lv_sub hl [1, 2, 3, 5, 0] rfl) hf
        · have hf := hff c1
          refine lv_iconst (v := 1) hx hb dX5_parts_63 rfl ?_
          refine lv_goto (tgt := 68) hx hb dX5_parts_64 (by decide) ?_
          exact B68 v1_53 v4_53 v6_53 (t0_53 + t1_53) v5_53 1 σ53 _ _ _ M (lv_sub hl [1, 2, 3, 5, 0] rfl) hf
      intro v1_18 v4_18 v5_18 v6_18 σ18 H locs ls M hl hf
      refine lv_iload hx hb dX5_parts_18 (lv_at hl 4 rfl) ?_
      refine lv_aload_n hx hb dX5_parts_20 rfl (lv_at hl 0 rfl) ?_
      refine hm_get C M 6 (by decide) q2073 (v := .ref (b 6)) rfl dX5_parts_21 ?_
      refine lv_iconst (v := 0) hx hb dX5_parts_24 rfl ?_
      obtain ⟨g1, hf⟩ := hf
      refine hm_ald6 C M g1 dX5_parts_25 ?_
      obtain ⟨hft, hff⟩ := hf
      refine lv_icmp_ge (tgt := 118) hx hb dX5_parts_26 (by decide) (fun c1 => ?_) (fun c1 => ?_)
      · have hf := hft c1
        exact hret _ _ _ _ _ dX5_parts_118 M hf
      · have hf := hff c1
        refine lv_iload_n hx hb dX5_parts_29 rfl (lv_at hl 1 rfl) ?_
        refine lv_iload hx hb dX5_parts_30 (lv_at hl 4 rfl) ?_
        refine hm_csi C M hl.1 (As := [.int v1_18, .int v6_18]) (rest := []) (hk_bitOf l D dA o b hB v1_18 v6_18 σ18 hf) (n := 2) q2294 q2295 q140 q2296 (by decide +kernel) rfl ⟨Nat.le_of_ble_eq_true rfl, Nat.le_of_ble_eq_true rfl⟩ rfl (Nat.le_of_ble_eq_true rfl) dX5_parts_32 (fun r_32 σ_32 H locs hf M => ?_)
        obtain ⟨hft, hff⟩ := hf
        refine lv_if_ne (tgt := 41) hx hb dX5_parts_35 (by decide) (fun c1 => ?_) (fun c1 => ?_)
        · have hf := hft c1
          refine lv_iload hx hb dX5_parts_41 (lv_at hl 2 rfl) ?_
          refine lv_iload hx hb dX5_parts_43 (lv_at hl 3 rfl) ?_
          obtain ⟨hft, hff⟩ := hf
          refine lv_if_le (tgt := 52) hx hb dX5_parts_45 (by decide) (fun c1 => ?_) (fun c1 => ?_)
          · have hf := hft c1
            refine lv_iconst (v := 0) hx hb dX5_parts_52 rfl ?_
            exact B53 v1_18 v4_18 v5_18 v6_18 v4_18 0 σ_32 _ _ _ M (lv_sub hl [0, 1, 2, 3, 4] rfl) hf
          · have hf := hff c1
            refine lv_iconst (v := 1) hx hb dX5_parts_48 rfl ?_
            refine lv_goto (tgt := 53) hx hb dX5_parts_49 (by decide) ?_
            exact B53 v1_18 v4_18 v5_18 v6_18 v4_18 1 σ_32 _ _ _ M (lv_sub hl [0, 1, 2, 3, 4] rfl) hf
        · have hf := hff c1
          refine lv_goto (tgt := 112) hx hb dX5_parts_38 (by decide) ?_
          refine lv_iinc (v := v6_18 + 1) (lv' := [(6, .int (v6_18 + 1)), (0, .ref o), (1, .int v1_18), (4, .int v4_18), (5, .int v5_18)]) hx hb dX5_parts_112 hl (k := 4) rfl rfl (by decide) rfl (fun ls hl => ?_)
          refine lv_goto (tgt := 18) hx hb dX5_parts_115 (by decide) ?_
          exact ih18 v1_18 v4_18 v5_18 (v6_18 + 1) σ_32 _ _ _ M (lv_sub hl [1, 2, 3, 4, 0] rfl) hf
  refine lv_iload_n hx hb dX5_parts_0 rfl (lv_at hl 1 rfl) ?_
  refine hm_csi C M hl.1 (As := [.int a1]) (rest := []) (hk_bits l D dA o b hB a1 σ hf) (n := 1) q2291 q2292 q140 q2293 (by decide +kernel) rfl ⟨Nat.le_of_ble_eq_true rfl, Nat.le_of_ble_eq_true rfl⟩ rfl (Nat.le_of_ble_eq_true rfl) dX5_parts_1 (fun r_1 σ_1 H locs hf M => ?_)
  refine lv_istore_n (lv' := [(3, .int r_1), (0, .ref o), (1, .int a1), (2, .int a2)]) hx hb dX5_parts_4 rfl hl (by decide) rfl (fun ls hl => ?_)
  refine lv_iload_n hx hb dX5_parts_5 rfl (lv_at hl 3 rfl) ?_
  refine lv_iload_n hx hb dX5_parts_6 rfl (lv_at hl 0 rfl) ?_
  obtain ⟨g1, hf⟩ := hf
  refine lv_idiv hx hb dX5_parts_7 g1 ?_
  refine lv_istore (lv' := [(4, .int (a2 / r_1)), (3, .int r_1), (0, .ref o), (1, .int a1), (2, .int a2)]) hx hb dX5_parts_8 hl (by decide) rfl (fun ls hl => ?_)
  refine lv_iload_n hx hb dX5_parts_10 rfl (lv_at hl 4 rfl) ?_
  refine lv_iload_n hx hb dX5_parts_11 rfl (lv_at hl 1 rfl) ?_
  obtain ⟨g1, hf⟩ := hf
  refine lv_irem hx hb dX5_parts_12 g1 ?_
  refine lv_istore (lv' := [(5, .int (a2 - a2 / r_1 * r_1)), (4, .int (a2 / r_1)), (3, .int r_1), (0, .ref o), (1, .int a1), (2, .int a2)]) hx hb dX5_parts_13 hl (by decide) rfl (fun ls hl => ?_)
  refine lv_iconst (v := 0) hx hb dX5_parts_15 rfl ?_
  refine lv_istore (lv' := [(6, .int 0), (5, .int (a2 - a2 / r_1 * r_1)), (4, .int (a2 / r_1)), (3, .int r_1), (0, .ref o), (1, .int a1), (2, .int a2)]) hx hb dX5_parts_16 hl (by decide) rfl (fun ls hl => ?_)
  obtain ⟨nn, hf⟩ := hf
  exact B18 nn a1 (a2 / r_1) (a2 - a2 / r_1 * r_1) 0 σ_1 _ _ _ M (lv_sub hl [4, 5, 2, 1, 0] rfl) hf
