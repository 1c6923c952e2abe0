set_option maxRecDepth 100000
def hw_X2_isPerson (F : hf_F) (a1 : Int32) (_ : Unit) (Q : Int32 → Unit → Prop) : Prop := hw_X1_isIn a1 0 ((nI (hf_n F 5)) - 1) () (fun r_11 _ => (hb_B r_11 ∧ Q r_11 ()))
set_option maxHeartbeats 4000000 in
set_option maxRecDepth 100000 in
theorem hk_X2_isPerson (l : Launch) (D : va_G) (dA : Nat → ClassId) (F : hf_F) (a1 : Int32) {Q : Int32 → Unit → Prop} (hf : hw_X2_isPerson F a1 () Q) : Met l yX2_isPerson (ws_ yX2_isPerson cX2_isPerson 2 (some .boolean)) (hb_R 1 22) (va_Pc [.ref (hf_n F 0), .int a1] (hf_U D dA F)) (vp_Si (fun r => Q r ())) 0 0 (fun _ => False) := by
  refine hp_Mz (LV := [(0, .ref (hf_n F 0)), (1, .int a1)]) (fun _ h => h.2) (by decide) rfl (Nat.le_of_ble_eq_true rfl) (fun p e s m args below meth c ls QQ C hU hl hret => ?_)
  have hx := C.1.1
  have hb := C.1.2.1
  have hF := hU.1
  refine lv_iload_n hx hb dX2_isPerson_0 rfl (lv_at hl 1 rfl) ?_
  refine lv_iconst (v := 0) hx hb dX2_isPerson_1 rfl ?_
  refine lv_aload_n hx hb dX2_isPerson_2 rfl (lv_at hl 0 rfl) ?_
  refine hp_get C hF.1 (CN := RX2) (T := TX2) (N := 5) rfl in_X2 3 (by decide) q226 (v := .ref (hf_n F 1)) rfl dX2_isPerson_3 ?_
  refine hp_cvi C hl.1 (As := []) (rest := [.int 0, .int a1]) hl_blind (CN := RJ2) (T := TJ2) (N := 3) (ci := 4) rfl hF.2.1 (fun U hU hW => ⟨by rw [hU]; exact hF.2.1, hb_K.warm hW C.2⟩) (Q := fun r _ => r = nI (hf_n F 5)) (hl_size l) (n := 0) q1199 q313 q314 q129 q315 (by decide +kernel) rfl ⟨Nat.le_of_ble_eq_true rfl, Nat.le_of_ble_eq_true rfl⟩ ⟨Nat.zero_le _, Nat.zero_le _⟩ rfl (Nat.le_of_ble_eq_true rfl) dX2_isPerson_6 (fun r_6 hr => ?_)
  obtain rfl : r_6 = nI (hf_n F 5) := hr
  refine lv_iconst (v := 1) hx hb dX2_isPerson_9 rfl ?_
  refine lv_isub hx hb dX2_isPerson_10 ?_
  refine hp_csN C hl.1 (As := [.int a1, .int 0, .int ((nI (hf_n F 5)) - 1)]) (rest := []) (hk_X1_isIn l D dA a1 0 ((nI (hf_n F 5)) - 1) hf) (n := 3) q1200 q980 q125 q981 (by decide +kernel) rfl ⟨Nat.le_of_ble_eq_true rfl, Nat.le_of_ble_eq_true rfl⟩ ⟨Nat.zero_le _, Nat.zero_le _⟩ rfl (Nat.le_of_ble_eq_true rfl) dX2_isPerson_11 (fun r_11 hf => ?_)
  exact hret _ _ _ dX2_isPerson_14 hf.1 hf.2
def hw_X2_next_b5 (F : hf_F) : Nat → Int32 → Int32 → Int32 → Int32 → Unit → (Int32 → Unit → Prop) → Prop
  | 0, _, _, _, _, _, _ => False
  | n5 + 1, v1_5, v2_5, v3_5, v4_5, σ5, Q => ((nI (hf_n F 5)) ≤ v4_5 → Q v3_5 ()) ∧ (¬ (nI (hf_n F 5)) ≤ v4_5 → hw_X1_isOf v1_5 v4_5 () (fun r_20 _ => ((r_20 = 0 → hw_X2_next_b5 F  n5 v1_5 v2_5 v3_5 (v4_5 + 1) σ5 Q) ∧ (¬ r_20 = 0 → (v2_5 = 0 → vp_in v4_5 (hf_n F 5) ∧ (hw_X2_next_b5 F  n5 v1_5 v2_5 (v3_5 ||| (hf_p F 4 v4_5.toNatClampNeg)) (v4_5 + 1) σ5 Q)) ∧ (¬ v2_5 = 0 → vp_in v4_5 (hf_n F 5) ∧ (hw_X2_next_b5 F  n5 v1_5 v2_5 (v3_5 ||| (hf_p F 3 v4_5.toNatClampNeg)) (v4_5 + 1) σ5 Q))))))
def hw_X2_next (F : hf_F) (a1 : Int32) (a2 : Int32) (_ : Unit) (Q : Int32 → Unit → Prop) : Prop := ∃ n, hw_X2_next_b5 F  n a1 a2 0 0 () Q
set_option maxHeartbeats 4000000 in
set_option maxRecDepth 100000 in
theorem hk_X2_next (l : Launch) (D : va_G) (dA : Nat → ClassId) (F : hf_F) (a1 : Int32) (a2 : Int32) {Q : Int32 → Unit → Prop} (hf : hw_X2_next F a1 a2 () Q) : Met l yX2_next (ws_ yX2_next cX2_next 5 (some .int)) (hb_R 4 85) (va_Pc [.ref (hf_n F 0), .int a1, .int a2] (hf_U D dA F)) (vp_Si (fun r => Q r ())) 0 0 (fun _ => False) := by
  refine hp_Mi (LV := [(0, .ref (hf_n F 0)), (1, .int a1), (2, .int a2)]) (fun _ h => h.2) (by decide) rfl (Nat.le_of_ble_eq_true rfl) (fun p e s m args below meth c ls QQ C hU hl hret => ?_)
  have hx := C.1.1
  have hb := C.1.2.1
  have hF := hU.1
  have B5 : ∀ (n5 : Nat) (v1_5 : Int32) (v2_5 : Int32) (v3_5 : Int32) (v4_5 : Int32) (σ5 : Unit) (ls : Array Slot), lv_has ls 5 [(0, .ref (hf_n F 0)), (1, .int v1_5), (2, .int v2_5), (3, .int v3_5), (4, .int v4_5)] → hw_X2_next_b5 F  n5 v1_5 v2_5 v3_5 v4_5 σ5 Q → W p l e (hb_R 4 85) s m args below meth c s.heap [] 0 0 QQ (F0 m 5 ls []) := by
    intro n5
    induction n5 with
    | zero => intro v1_5 v2_5 v3_5 v4_5 σ5 ls hl hf; exact hf.elim
    | succ n5 ih5 =>
      intro v1_5 v2_5 v3_5 v4_5 σ5 ls hl hf
      refine lv_iload hx hb dX2_next_5 (lv_at hl 4 rfl) ?_
      refine lv_aload_n hx hb dX2_next_7 rfl (lv_at hl 0 rfl) ?_
      refine hp_get C hF.1 (CN := RX2) (T := TX2) (N := 5) rfl in_X2 3 (by decide) q226 (v := .ref (hf_n F 1)) rfl dX2_next_8 ?_
      refine hp_cvi C hl.1 (As := []) (rest := [.int v4_5]) hl_blind (CN := RJ2) (T := TJ2) (N := 3) (ci := 4) rfl hF.2.1 (fun U hU hW => ⟨by rw [hU]; exact hF.2.1, hb_K.warm hW C.2⟩) (Q := fun r _ => r = nI (hf_n F 5)) (hl_size l) (n := 0) q1199 q313 q314 q129 q315 (by decide +kernel) rfl ⟨Nat.le_of_ble_eq_true rfl, Nat.le_of_ble_eq_true rfl⟩ ⟨Nat.zero_le _, Nat.zero_le _⟩ rfl (Nat.le_of_ble_eq_true rfl) dX2_next_11 (fun r_11 hr => ?_)
      obtain rfl : r_11 = nI (hf_n F 5) := hr
      obtain ⟨hft, hff⟩ := hf
      refine lv_icmp_ge (tgt := 60) hx hb dX2_next_14 (by decide) (fun c1 => ?_) (fun c1 => ?_)
      · have hf := hft c1
        refine lv_iload_n hx hb dX2_next_60 rfl (lv_at hl 3 rfl) ?_
        exact hret _ _ _ dX2_next_61 hf
      · have hf := hff c1
        refine lv_iload_n hx hb dX2_next_17 rfl (lv_at hl 1 rfl) ?_
        refine lv_iload hx hb dX2_next_18 (lv_at hl 4 rfl) ?_
        refine hp_csN C hl.1 (As := [.int v1_5, .int v4_5]) (rest := []) (hk_X1_isOf l D dA v1_5 v4_5 hf) (n := 2) q1210 q1114 q125 q1115 (by decide +kernel) rfl ⟨Nat.le_of_ble_eq_true rfl, Nat.le_of_ble_eq_true rfl⟩ ⟨Nat.zero_le _, Nat.zero_le _⟩ rfl (Nat.le_of_ble_eq_true rfl) dX2_next_20 (fun r_20 hf => ?_)
        obtain ⟨hft, hff⟩ := hf
        refine lv_if_eq (tgt := 54) hx hb dX2_next_23 (by decide) (fun c1 => ?_) (fun c1 => ?_)
        · have hf := hft c1
          refine lv_iinc (v := v4_5 + 1) (lv' := [(4, .int (v4_5 + 1)), (0, .ref (hf_n F 0)), (1, .int v1_5), (2, .int v2_5), (3, .int v3_5)]) hx hb dX2_next_54 hl (k := 4) rfl rfl (by decide) rfl (fun ls hl => ?_)
          refine lv_goto (tgt := 5) hx hb dX2_next_57 (by decide) ?_
          exact ih5 v1_5 v2_5 v3_5 (v4_5 + 1) σ5 _ (lv_sub hl [1, 2, 3, 4, 0] rfl) hf
        · have hf := hff c1
          refine lv_iload_n hx hb dX2_next_26 rfl (lv_at hl 3 rfl) ?_
          refine lv_iload_n hx hb dX2_next_27 rfl (lv_at hl 2 rfl) ?_
          obtain ⟨hft, hff⟩ := hf
          refine lv_if_eq (tgt := 43) hx hb dX2_next_28 (by decide) (fun c1 => ?_) (fun c1 => ?_)
          · have hf := hft c1
            refine lv_aload_n hx hb dX2_next_43 rfl (lv_at hl 0 rfl) ?_
            refine lv_iload hx hb dX2_next_44 (lv_at hl 4 rfl) ?_
            obtain ⟨g_46, hf⟩ := hf
            refine hp_cvr C hl.1 (As := [.int v4_5]) (rest := [.int v3_5]) hf_blind (CN := RX2) (T := TX2) (N := 5) (ci := 15) rfl hF.1 (fun U hU hW => ⟨by rw [hU]; exact hF, hb_K.warm hW C.2⟩) (Q := fun r _ => r = hf_a F 0 v4_5.toNatClampNeg) (hf_person l g_46) (n := 1) q1211 q324 q325 q126 q326 (by decide +kernel) rfl ⟨Nat.le_of_ble_eq_true rfl, Nat.le_of_ble_eq_true rfl⟩ ⟨Nat.zero_le _, Nat.zero_le _⟩ rfl (Nat.le_of_ble_eq_true rfl) dX2_next_46 (fun r_46 hr => ?_)
            obtain rfl : r_46 = hf_a F 0 v4_5.toNatClampNeg := hr
            refine hp_getN C (hf_pp hF g_46) (CN := RX9) (T := TX9) (N := 7) rfl in_X9 4 (by decide) q1004 (v := .int (hf_p F 4 v4_5.toNatClampNeg)) rfl dX2_next_49 ?_
            refine lv_ior hx hb dX2_next_52 ?_
            refine lv_istore_n (lv' := [(3, .int (v3_5 ||| (hf_p F 4 v4_5.toNatClampNeg))), (0, .ref (hf_n F 0)), (1, .int v1_5), (2, .int v2_5), (4, .int v4_5)]) hx hb dX2_next_53 rfl hl (by decide) rfl (fun ls hl => ?_)
            refine lv_iinc (v := v4_5 + 1) (lv' := [(4, .int (v4_5 + 1)), (3, .int (v3_5 ||| (hf_p F 4 v4_5.toNatClampNeg))), (0, .ref (hf_n F 0)), (1, .int v1_5), (2, .int v2_5)]) hx hb dX2_next_54 hl (k := 4) rfl rfl (by decide) rfl (fun ls hl => ?_)
            refine lv_goto (tgt := 5) hx hb dX2_next_57 (by decide) ?_
            exact ih5 v1_5 v2_5 (v3_5 ||| (hf_p F 4 v4_5.toNatClampNeg)) (v4_5 + 1) σ5 _ (lv_sub hl [2, 3, 4, 1, 0] rfl) hf
          · have hf := hff c1
            refine lv_aload_n hx hb dX2_next_31 rfl (lv_at hl 0 rfl) ?_
            refine lv_iload hx hb dX2_next_32 (lv_at hl 4 rfl) ?_
            obtain ⟨g_34, hf⟩ := hf
            refine hp_cvr C hl.1 (As := [.int v4_5]) (rest := [.int v3_5]) hf_blind (CN := RX2) (T := TX2) (N := 5) (ci := 15) rfl hF.1 (fun U hU hW => ⟨by rw [hU]; exact hF, hb_K.warm hW C.2⟩) (Q := fun r _ => r = hf_a F 0 v4_5.toNatClampNeg) (hf_person l g_34) (n := 1) q1211 q324 q325 q126 q326 (by decide +kernel) rfl ⟨Nat.le_of_ble_eq_true rfl, Nat.le_of_ble_eq_true rfl⟩ ⟨Nat.zero_le _, Nat.zero_le _⟩ rfl (Nat.le_of_ble_eq_true rfl) dX2_next_34 (fun r_34 hr => ?_)
            obtain rfl : r_34 = hf_a F 0 v4_5.toNatClampNeg := hr
            refine hp_getN C (hf_pp hF g_34) (CN := RX9) (T := TX9) (N := 7) rfl in_X9 3 (by decide) q1000 (v := .int (hf_p F 3 v4_5.toNatClampNeg)) rfl dX2_next_37 ?_
            refine lv_goto (tgt := 52) hx hb dX2_next_40 (by decide) ?_
            refine lv_ior hx hb dX2_next_52 ?_
            refine lv_istore_n (lv' := [(3, .int (v3_5 ||| (hf_p F 3 v4_5.toNatClampNeg))), (0, .ref (hf_n F 0)), (1, .int v1_5), (2, .int v2_5), (4, .int v4_5)]) hx hb dX2_next_53 rfl hl (by decide) rfl (fun ls hl => ?_)
            refine lv_iinc (v := v4_5 + 1) (lv' := [(4, .int (v4_5 + 1)), (3, .int (v3_5 ||| (hf_p F 3 v4_5.toNatClampNeg))), (0, .ref (hf_n F 0)), (1, .int v1_5), (2, .int v2_5)]) hx hb dX2_next_54 hl (k := 4) rfl rfl (by decide) rfl (fun ls hl => ?_)
            refine lv_goto (tgt := 5) hx hb dX2_next_57 (by decide) ?_
            exact ih5 v1_5 v2_5 (v3_5 ||| (hf_p F 3 v4_5.toNatClampNeg)) (v4_5 + 1) σ5 _ (lv_sub hl [2, 3, 4, 1, 0] rfl) hf
  refine lv_iconst (v := 0) hx hb dX2_next_0 rfl ?_
  refine lv_istore_n (lv' := [(3, .int 0), (0, .ref (hf_n F 0)), (1, .int a1), (2, .int a2)]) hx hb dX2_next_1 rfl hl (by decide) rfl (fun ls hl => ?_)
  refine lv_iconst (v := 0) hx hb dX2_next_2 rfl ?_
  refine lv_istore (lv' := [(4, .int 0), (3, .int 0), (0, .ref (hf_n F 0)), (1, .int a1), (2, .int a2)]) hx hb dX2_next_3 hl (by decide) rfl (fun ls hl => ?_)
  obtain ⟨nn, hf⟩ := hf
  exact B5 nn a1 a2 0 0 () _ (lv_sub hl [2, 3, 4, 1, 0] rfl) hf
def hw_X2_issue_b9 (F : hf_F) : Nat → Int32 → Unit → (Int32 → Unit → Prop) → Prop
  | 0, _, _, _ => False
  | n9 + 1, v2_9, σ9, Q => hw_X2_next F v2_9 0 () (fun r_13 _ => (((v2_9 ||| r_13) = v2_9 → Q v2_9 ()) ∧ (¬ (v2_9 ||| r_13) = v2_9 → hw_X2_next F v2_9 0 () (fun r_25 _ => (hw_X2_issue_b9 F  n9 (v2_9 ||| r_25) σ9 Q)))))
def hw_X2_issue (F : hf_F) (a1 : Int32) (_ : Unit) (Q : Int32 → Unit → Prop) : Prop := vp_in a1 (hf_n F 5) ∧ (∃ n, hw_X2_issue_b9 F  n (hf_p F 4 a1.toNatClampNeg) () Q)
set_option maxHeartbeats 4000000 in
set_option maxRecDepth 100000 in
theorem hk_X2_issue (l : Launch) (D : va_G) (dA : Nat → ClassId) (F : hf_F) (a1 : Int32) {Q : Int32 → Unit → Prop} (hf : hw_X2_issue F a1 () Q) : Met l yX2_issue (ws_ yX2_issue cX2_issue 3 (some .int)) (hb_R 5 109) (va_Pc [.ref (hf_n F 0), .int a1] (hf_U D dA F)) (vp_Si (fun r => Q r ())) 0 0 (fun _ => False) := by
  refine hp_Mi (LV := [(0, .ref (hf_n F 0)), (1, .int a1)]) (fun _ h => h.2) (by decide) rfl (Nat.le_of_ble_eq_true rfl) (fun p e s m args below meth c ls QQ C hU hl hret => ?_)
  have hx := C.1.1
  have hb := C.1.2.1
  have hF := hU.1
  have B9 : ∀ (n9 : Nat) (v2_9 : Int32) (σ9 : Unit) (ls : Array Slot), lv_has ls 3 [(0, .ref (hf_n F 0)), (2, .int v2_9)] → hw_X2_issue_b9 F  n9 v2_9 σ9 Q → W p l e (hb_R 5 109) s m args below meth c s.heap [] 0 0 QQ (F0 m 9 ls []) := by
    intro n9
    induction n9 with
    | zero => intro v2_9 σ9 ls hl hf; exact hf.elim
    | succ n9 ih9 =>
      intro v2_9 σ9 ls hl hf
      refine lv_iload_n hx hb dX2_issue_9 rfl (lv_at hl 1 rfl) ?_
      refine lv_aload_n hx hb dX2_issue_10 rfl (lv_at hl 0 rfl) ?_
      refine lv_iload_n hx hb dX2_issue_11 rfl (lv_at hl 1 rfl) ?_
      refine lv_iconst (v := 0) hx hb dX2_issue_12 rfl ?_
      refine hp_cvi C hl.1 (As := [.int v2_9, .int 0]) (rest := [.int v2_9]) hf_blind (CN := RX2) (T := TX2) (N := 5) (ci := 15) rfl hF.1 (fun U hU hW => ⟨by rw [hU]; exact hF, hb_K.warm hW C.2⟩) (hk_X2_next l D dA F v2_9 0 hf) (n := 2) q1206 q1207 q1208 q126 q1209 (by decide +kernel) rfl ⟨Nat.le_of_ble_eq_true rfl, Nat.le_of_ble_eq_true rfl⟩ ⟨Nat.zero_le _, Nat.zero_le _⟩ rfl (Nat.le_of_ble_eq_true rfl) dX2_issue_13 (fun r_13 hf => ?_)
      refine lv_ior hx hb dX2_issue_16 ?_
      refine lv_iload_n hx hb dX2_issue_17 rfl (lv_at hl 1 rfl) ?_
      obtain ⟨hft, hff⟩ := hf
      refine lv_icmp_eq (tgt := 33) hx hb dX2_issue_18 (by decide) (fun c1 => ?_) (fun c1 => ?_)
      · have hf := hft c1
        refine lv_iload_n hx hb dX2_issue_33 rfl (lv_at hl 1 rfl) ?_
        exact hret _ _ _ dX2_issue_34 hf
      · have hf := hff c1
        refine lv_iload_n hx hb dX2_issue_21 rfl (lv_at hl 1 rfl) ?_
        refine lv_aload_n hx hb dX2_issue_22 rfl (lv_at hl 0 rfl) ?_
        refine lv_iload_n hx hb dX2_issue_23 rfl (lv_at hl 1 rfl) ?_
        refine lv_iconst (v := 0) hx hb dX2_issue_24 rfl ?_
        refine hp_cvi C hl.1 (As := [.int v2_9, .int 0]) (rest := [.int v2_9]) hf_blind (CN := RX2) (T := TX2) (N := 5) (ci := 15) rfl hF.1 (fun U hU hW => ⟨by rw [hU]; exact hF, hb_K.warm hW C.2⟩) (hk_X2_next l D dA F v2_9 0 hf) (n := 2) q1206 q1207 q1208 q126 q1209 (by decide +kernel) rfl ⟨Nat.le_of_ble_eq_true rfl, Nat.le_of_ble_eq_true rfl⟩ ⟨Nat.zero_le _, Nat.zero_le _⟩ rfl (Nat.le_of_ble_eq_true rfl) dX2_issue_25 (fun r_25 hf => ?_)
        refine lv_ior hx hb dX2_issue_28 ?_
        refine lv_istore_n (lv' := [(2, .int (v2_9 ||| r_25)), (0, .ref (hf_n F 0))]) hx hb dX2_issue_29 rfl hl (by decide) rfl (fun ls hl => ?_)
        refine lv_goto (tgt := 9) hx hb dX2_issue_30 (by decide) ?_
        exact ih9 (v2_9 ||| r_25) σ9 _ (lv_sub hl [1, 0] rfl) hf
  refine lv_aload_n hx hb dX2_issue_0 rfl (lv_at hl 0 rfl) ?_
  refine lv_iload_n hx hb dX2_issue_1 rfl (lv_at hl 1 rfl) ?_
  obtain ⟨g_2, hf⟩ := hf
  refine hp_cvr C hl.1 (As := [.int a1]) (rest := []) hf_blind (CN := RX2) (T := TX2) (N := 5) (ci := 15) rfl hF.1 (fun U hU hW => ⟨by rw [hU]; exact hF, hb_K.warm hW C.2⟩) (Q := fun r _ => r = hf_a F 0 a1.toNatClampNeg) (hf_person l g_2) (n := 1) q1211 q324 q325 q126 q326 (by decide +kernel) rfl ⟨Nat.le_of_ble_eq_true rfl, Nat.le_of_ble_eq_true rfl⟩ ⟨Nat.zero_le _, Nat.zero_le _⟩ rfl (Nat.le_of_ble_eq_true rfl) dX2_issue_2 (fun r_2 hr => ?_)
  obtain rfl : r_2 = hf_a F 0 a1.toNatClampNeg := hr
  refine hp_getN C (hf_pp hF g_2) (CN := RX9) (T := TX9) (N := 7) rfl in_X9 4 (by decide) q1004 (v := .int (hf_p F 4 a1.toNatClampNeg)) rfl dX2_issue_5 ?_
  refine lv_istore_n (lv' := [(2, .int (hf_p F 4 a1.toNatClampNeg)), (0, .ref (hf_n F 0)), (1, .int a1)]) hx hb dX2_issue_8 rfl hl (by decide) rfl (fun ls hl => ?_)
  obtain ⟨nn, hf⟩ := hf
  exact B9 nn (hf_p F 4 a1.toNatClampNeg) () _ (lv_sub hl [1, 0] rfl) hf
def hw_X2_degree_b32 (F : hf_F) (k12 : Int32 → Int32 → Int32 → Int32 → Unit → Prop) : Nat → Int32 → Int32 → Int32 → Int32 → Int32 → Int32 → Unit → (Int32 → Unit → Prop) → Prop
  | 0, _, _, _, _, _, _, _, _ => False
  | n32 + 1, v2_32, v3_32, v4_32, v5_32, v6_32, v7_32, σ32, Q => ((nI (hf_n F 5)) < v7_32 → hw_X2_next F v4_32 1 () (fun r_81 _ => (k12 v2_32 v3_32 r_81 (v5_32 + 1) σ32))) ∧ (¬ (nI (hf_n F 5)) < v7_32 → ((v4_32 &&& v6_32) = 0 → hw_X2_next F v6_32 1 () (fun r_66 _ => (hw_X2_degree_b32 F k12 n32 v2_32 v3_32 v4_32 v5_32 r_66 (v7_32 + 1) σ32 Q))) ∧ (¬ (v4_32 &&& v6_32) = 0 → hw_X2_next F v6_32 1 () (fun r_66 _ => (hw_X2_degree_b32 F k12 n32 v2_32 (if (v5_32 + v7_32) < v3_32 then (v5_32 + v7_32) else v3_32) v4_32 v5_32 r_66 (v7_32 + 1) σ32 Q))))
def hw_X2_degree_b12 (F : hf_F) : Nat → Int32 → Int32 → Int32 → Int32 → Unit → (Int32 → Unit → Prop) → Prop
  | 0, _, _, _, _, _, _ => False
  | n12 + 1, v2_12, v3_12, v4_12, v5_12, σ12, Q => ((nI (hf_n F 5)) < v5_12 → (¬ v3_12 = 1000 → Q v3_12 ()) ∧ (v3_12 = 1000 → Q (-1) ())) ∧ (¬ (nI (hf_n F 5)) < v5_12 → ∃ n, hw_X2_degree_b32 F (fun (u0 : Int32) (u1 : Int32) (u2 : Int32) (u3 : Int32) (τ : Unit) => hw_X2_degree_b12 F  n12 u0 u1 u2 u3 τ Q) n v2_12 v3_12 v4_12 v5_12 ((1 : Int32) <<< (v2_12 &&& 31)) 0 σ12 Q)
def hw_X2_degree (F : hf_F) (a1 : Int32) (a2 : Int32) (_ : Unit) (Q : Int32 → Unit → Prop) : Prop := ∃ n, hw_X2_degree_b12 F  n a2 1000 ((1 : Int32) <<< (a1 &&& 31)) 0 () Q
set_option maxHeartbeats 4000000 in
set_option maxRecDepth 100000 in
theorem hk_X2_degree (l : Launch) (D : va_G) (dA : Nat → ClassId) (F : hf_F) (a1 : Int32) (a2 : Int32) {Q : Int32 → Unit → Prop} (hf : hw_X2_degree F a1 a2 () Q) : Met l yX2_degree (ws_ yX2_degree cX2_degree 8 (some .int)) (hb_R 5 109) (va_Pc [.ref (hf_n F 0), .int a1, .int a2] (hf_U D dA F)) (vp_Si (fun r => Q r ())) 0 0 (fun _ => False) := by
  refine hp_Mi (LV := [(0, .ref (hf_n F 0)), (1, .int a1), (2, .int a2)]) (fun _ h => h.2) (by decide) rfl (Nat.le_of_ble_eq_true rfl) (fun p e s m args below meth c ls QQ C hU hl hret => ?_)
  have hx := C.1.1
  have hb := C.1.2.1
  have hF := hU.1
  have B12 : ∀ (n12 : Nat) (v2_12 : Int32) (v3_12 : Int32) (v4_12 : Int32) (v5_12 : Int32) (σ12 : Unit) (ls : Array Slot), lv_has ls 8 [(0, .ref (hf_n F 0)), (2, .int v2_12), (3, .int v3_12), (4, .int v4_12), (5, .int v5_12)] → hw_X2_degree_b12 F  n12 v2_12 v3_12 v4_12 v5_12 σ12 Q → W p l e (hb_R 5 109) s m args below meth c s.heap [] 0 0 QQ (F0 m 12 ls []) := by
    intro n12
    induction n12 with
    | zero => intro v2_12 v3_12 v4_12 v5_12 σ12 ls hl hf; exact hf.elim
    | succ n12 ih12 =>
      have B32 : ∀ (n32 : Nat) (v2_32 : Int32) (v3_32 : Int32) (v4_32 : Int32) (v5_32 : Int32) (v6_32 : Int32) (v7_32 : Int32) (σ32 : Unit) (ls : Array Slot), lv_has ls 8 [(0, .ref (hf_n F 0)), (2, .int v2_32), (3, .int v3_32), (4, .int v4_32), (5, .int v5_32), (6, .int v6_32), (7, .int v7_32)] → hw_X2_degree_b32 F (fun (u0 : Int32) (u1 : Int32) (u2 : Int32) (u3 : Int32) (τ : Unit) => hw_X2_degree_b12 F  n12 u0 u1 u2 u3 τ Q) n32 v2_32 v3_32 v4_32 v5_32 v6_32 v7_32 σ32 Q → W p l e (hb_R 5 109) s m args below meth c s.heap [] 0 0 QQ (F0 m 32 ls []) := by
        intro n32
        induction n32 with
        | zero => intro v2_32 v3_32 v4_32 v5_32 v6_32 v7_32 σ32 ls hl hf; exact hf.elim
        | succ n32 ih32 =>
          intro v2_32 v3_32 v4_32 v5_32 v6_32 v7_32 σ32 ls hl hf
          refine lv_iload hx hb dX2_degree_32 (lv_at hl 6 rfl) ?_
          refine lv_aload_n hx hb dX2_degree_34 rfl (lv_at hl 0 rfl) ?_
          refine hp_get C hF.1 (CN := RX2) (T := TX2) (N := 5) rfl in_X2 3 (by decide) q226 (v := .ref (hf_n F 1)) rfl dX2_degree_35 ?_
          refine hp_cvi C hl.1 (As := []) (rest := [.int v7_32]) hl_blind (CN := RJ2) (T := TJ2) (N := 3) (ci := 4) rfl hF.2.1 (fun U hU hW => ⟨by rw [hU]; exact hF.2.1, hb_K.warm hW C.2⟩) (Q := fun r _ => r = nI (hf_n F 5)) (hl_size l) (n := 0) q1199 q313 q314 q129 q315 (by decide +kernel) rfl ⟨Nat.le_of_ble_eq_true rfl, Nat.le_of_ble_eq_true rfl⟩ ⟨Nat.zero_le _, Nat.zero_le _⟩ rfl (Nat.le_of_ble_eq_true rfl) dX2_degree_38 (fun r_38 hr => ?_)
          obtain rfl : r_38 = nI (hf_n F 5) := hr
          obtain ⟨hft, hff⟩ := hf
          refine lv_icmp_gt (tgt := 77) hx hb dX2_degree_41 (by decide) (fun c1 => ?_) (fun c1 => ?_)
          · have hf := hft c1
            refine lv_aload_n hx hb dX2_degree_77 rfl (lv_at hl 0 rfl) ?_
            refine lv_iload hx hb dX2_degree_78 (lv_at hl 3 rfl) ?_
            refine lv_iconst (v := 1) hx hb dX2_degree_80 rfl ?_
            refine hp_cvi C hl.1 (As := [.int v4_32, .int 1]) (rest := []) hf_blind (CN := RX2) (T := TX2) (N := 5) (ci := 15) rfl hF.1 (fun U hU hW => ⟨by rw [hU]; exact hF, hb_K.warm hW C.2⟩) (hk_X2_next l D dA F v4_32 1 hf) (n := 2) q1206 q1207 q1208 q126 q1209 (by decide +kernel) rfl ⟨Nat.le_of_ble_eq_true rfl, Nat.le_of_ble_eq_true rfl⟩ ⟨Nat.zero_le _, Nat.zero_le _⟩ rfl (Nat.le_of_ble_eq_true rfl) dX2_degree_81 (fun r_81 hf => ?_)
            refine lv_istore (lv' := [(4, .int r_81), (0, .ref (hf_n F 0)), (2, .int v2_32), (3, .int v3_32), (5, .int v5_32), (6, .int v6_32), (7, .int v7_32)]) hx hb dX2_degree_84 hl (by decide) rfl (fun ls hl => ?_)
            refine lv_iinc (v := v5_32 + 1) (lv' := [(5, .int (v5_32 + 1)), (4, .int r_81), (0, .ref (hf_n F 0)), (2, .int v2_32), (3, .int v3_32), (6, .int v6_32), (7, .int v7_32)]) hx hb dX2_degree_86 hl (k := 4) rfl rfl (by decide) rfl (fun ls hl => ?_)
            refine lv_goto (tgt := 12) hx hb dX2_degree_89 (by decide) ?_
            exact ih12 v2_32 v3_32 r_81 (v5_32 + 1) σ32 _ (lv_sub hl [2, 3, 4, 1, 0] rfl) hf
          · have hf := hff c1
            refine lv_iload hx hb dX2_degree_44 (lv_at hl 3 rfl) ?_
            refine lv_iload hx hb dX2_degree_46 (lv_at hl 5 rfl) ?_
            refine lv_iand hx hb dX2_degree_48 ?_
            obtain ⟨hft, hff⟩ := hf
            refine lv_if_eq (tgt := 62) hx hb dX2_degree_49 (by decide) (fun c1 => ?_) (fun c1 => ?_)
            · have hf := hft c1
              refine lv_aload_n hx hb dX2_degree_62 rfl (lv_at hl 0 rfl) ?_
              refine lv_iload hx hb dX2_degree_63 (lv_at hl 5 rfl) ?_
              refine lv_iconst (v := 1) hx hb dX2_degree_65 rfl ?_
              refine hp_cvi C hl.1 (As := [.int v6_32, .int 1]) (rest := []) hf_blind (CN := RX2) (T := TX2) (N := 5) (ci := 15) rfl hF.1 (fun U hU hW => ⟨by rw [hU]; exact hF, hb_K.warm hW C.2⟩) (hk_X2_next l D dA F v6_32 1 hf) (n := 2) q1206 q1207 q1208 q126 q1209 (by decide +kernel) rfl ⟨Nat.le_of_ble_eq_true rfl, Nat.le_of_ble_eq_true rfl⟩ ⟨Nat.zero_le _, Nat.zero_le _⟩ rfl (Nat.le_of_ble_eq_true rfl) dX2_degree_66 (fun r_66 hf => ?_)
              refine lv_istore (lv' := [(6, .int r_66), (0, .ref (hf_n F 0)), (2, .int v2_32), (3, .int v3_32), (4, .int v4_32), (5, .int v5_32), (7, .int v7_32)]) hx hb dX2_degree_69 hl (by decide) rfl (fun ls hl => ?_)
              refine lv_iinc (v := v7_32 + 1) (lv' := [(7, .int (v7_32 + 1)), (6, .int r_66), (0, .ref (hf_n F 0)), (2, .int v2_32), (3, .int v3_32), (4, .int v4_32), (5, .int v5_32)]) hx hb dX2_degree_71 hl (k := 6) rfl rfl (by decide) rfl (fun ls hl => ?_)
              refine lv_goto (tgt := 32) hx hb dX2_degree_74 (by decide) ?_
              exact ih32 v2_32 v3_32 v4_32 v5_32 r_66 (v7_32 + 1) σ32 _ (lv_sub hl [2, 3, 4, 5, 6, 1, 0] rfl) hf
            · have hf := hff c1
              refine lv_iload_n hx hb dX2_degree_52 rfl (lv_at hl 2 rfl) ?_
              refine lv_iload hx hb dX2_degree_53 (lv_at hl 4 rfl) ?_
              refine lv_iload hx hb dX2_degree_55 (lv_at hl 6 rfl) ?_
              refine lv_iadd hx hb dX2_degree_57 ?_
              refine va_mmin hx hb (C.1.2.2.1.trans hl.1.symm) C.1.2.2.2.1 (C.1.2.2.2.2 _ q1205) (C.1.2.2.2.2 _ q709) (C.1.2.2.2.2 _ q148) (C.1.2.2.2.2 _ q710) (Nat.le_of_ble_eq_true rfl) (Nat.le_of_ble_eq_true rfl) (Nat.zero_le _) (Nat.zero_le _) dX2_degree_58 ?_
              refine lv_istore_n (lv' := [(3, .int (if (v5_32 + v7_32) < v3_32 then (v5_32 + v7_32) else v3_32)), (0, .ref (hf_n F 0)), (2, .int v2_32), (4, .int v4_32), (5, .int v5_32), (6, .int v6_32), (7, .int v7_32)]) hx hb dX2_degree_61 rfl hl (by decide) rfl (fun ls hl => ?_)
              refine lv_aload_n hx hb dX2_degree_62 rfl (lv_at hl 1 rfl) ?_
              refine lv_iload hx hb dX2_degree_63 (lv_at hl 5 rfl) ?_
              refine lv_iconst (v := 1) hx hb dX2_degree_65 rfl ?_
              refine hp_cvi C hl.1 (As := [.int v6_32, .int 1]) (rest := []) hf_blind (CN := RX2) (T := TX2) (N := 5) (ci := 15) rfl hF.1 (fun U hU hW => ⟨by rw [hU]; exact hF, hb_K.warm hW C.2⟩) (hk_X2_next l D dA F v6_32 1 hf) (n := 2) q1206 q1207 q1208 q126 q1209 (by decide +kernel) rfl ⟨Nat.le_of_ble_eq_true rfl, Nat.le_of_ble_eq_true rfl⟩ ⟨Nat.zero_le _, Nat.zero_le _⟩ rfl (Nat.le_of_ble_eq_true rfl) dX2_degree_66 (fun r_66 hf => ?_)
              refine lv_istore (lv' := [(6, .int r_66), (3, .int (if (v5_32 + v7_32) < v3_32 then (v5_32 + v7_32) else v3_32)), (0, .ref (hf_n F 0)), (2, .int v2_32), (4, .int v4_32), (5, .int v5_32), (7, .int v7_32)]) hx hb dX2_degree_69 hl (by decide) rfl (fun ls hl => ?_)
              refine lv_iinc (v := v7_32 + 1) (lv' := [(7, .int (v7_32 + 1)), (6, .int r_66), (3, .int (if (v5_32 + v7_32) < v3_32 then (v5_32 + v7_32) else v3_32)), (0, .ref (hf_n F 0)), (2, .int v2_32), (4, .int v4_32), (5, .int v5_32)]) hx hb dX2_degree_71 hl (k := 6) rfl rfl (by decide) rfl (fun ls hl => ?_)
              refine lv_goto (tgt := 32) hx hb dX2_degree_74 (by decide) ?_
              exact ih32 v2_32 (if (v5_32 + v7_32) < v3_32 then (v5_32 + v7_32) else v3_32) v4_32 v5_32 r_66 (v7_32 + 1) σ32 _ (lv_sub hl [3, 4, 2, 5, 6, 1, 0] rfl) hf
      intro v2_12 v3_12 v4_12 v5_12 σ12 ls hl hf
      refine lv_iload hx hb dX2_degree_12 (lv_at hl 4 rfl) ?_
      refine lv_aload_n hx hb dX2_degree_14 rfl (lv_at hl 0 rfl) ?_
      refine hp_get C hF.1 (CN := RX2) (T := TX2) (N := 5) rfl in_X2 3 (by decide) q226 (v := .ref (hf_n F 1)) rfl dX2_degree_15 ?_
      refine hp_cvi C hl.1 (As := []) (rest := [.int v5_12]) hl_blind (CN := RJ2) (T := TJ2) (N := 3) (ci := 4) rfl hF.2.1 (fun U hU hW => ⟨by rw [hU]; exact hF.2.1, hb_K.warm hW C.2⟩) (Q := fun r _ => r = nI (hf_n F 5)) (hl_size l) (n := 0) q1199 q313 q314 q129 q315 (by decide +kernel) rfl ⟨Nat.le_of_ble_eq_true rfl, Nat.le_of_ble_eq_true rfl⟩ ⟨Nat.zero_le _, Nat.zero_le _⟩ rfl (Nat.le_of_ble_eq_true rfl) dX2_degree_18 (fun r_18 hr => ?_)
      obtain rfl : r_18 = nI (hf_n F 5) := hr
      obtain ⟨hft, hff⟩ := hf
      refine lv_icmp_gt (tgt := 92) hx hb dX2_degree_21 (by decide) (fun c1 => ?_) (fun c1 => ?_)
      · have hf := hft c1
        refine lv_iload_n hx hb dX2_degree_92 rfl (lv_at hl 2 rfl) ?_
        refine lv_sipush (v := 1000) hx hb dX2_degree_93 rfl ?_
        obtain ⟨hft, hff⟩ := hf
        refine lv_icmp_ne (tgt := 103) hx hb dX2_degree_96 (by decide) (fun c1 => ?_) (fun c1 => ?_)
        · have hf := hft c1
          refine lv_iload_n hx hb dX2_degree_103 rfl (lv_at hl 2 rfl) ?_
          exact hret _ _ _ dX2_degree_104 hf
        · have hf := hff c1
          refine lv_iconst (v := (-1)) hx hb dX2_degree_99 rfl ?_
          refine lv_goto (tgt := 104) hx hb dX2_degree_100 (by decide) ?_
          exact hret _ _ _ dX2_degree_104 hf
      · have hf := hff c1
        refine lv_iconst (v := 1) hx hb dX2_degree_24 rfl ?_
        refine lv_iload_n hx hb dX2_degree_25 rfl (lv_at hl 1 rfl) ?_
        refine lv_ishl hx hb dX2_degree_26 ?_
        refine lv_istore (lv' := [(6, .int ((1 : Int32) <<< (v2_12 &&& 31))), (0, .ref (hf_n F 0)), (2, .int v2_12), (3, .int v3_12), (4, .int v4_12), (5, .int v5_12)]) hx hb dX2_degree_27 hl (by decide) rfl (fun ls hl => ?_)
        refine lv_iconst (v := 0) hx hb dX2_degree_29 rfl ?_
        refine lv_istore (lv' := [(7, .int 0), (6, .int ((1 : Int32) <<< (v2_12 &&& 31))), (0, .ref (hf_n F 0)), (2, .int v2_12), (3, .int v3_12), (4, .int v4_12), (5, .int v5_12)]) hx hb dX2_degree_30 hl (by decide) rfl (fun ls hl => ?_)
        obtain ⟨nn, hf⟩ := hf
        exact B32 nn v2_12 v3_12 v4_12 v5_12 ((1 : Int32) <<< (v2_12 &&& 31)) 0 σ12 _ (lv_sub hl [2, 3, 4, 5, 6, 1, 0] rfl) hf
  refine lv_sipush (v := 1000) hx hb dX2_degree_0 rfl ?_
  refine lv_istore_n (lv' := [(3, .int 1000), (0, .ref (hf_n F 0)), (1, .int a1), (2, .int a2)]) hx hb dX2_degree_3 rfl hl (by decide) rfl (fun ls hl => ?_)
  refine lv_iconst (v := 1) hx hb dX2_degree_4 rfl ?_
  refine lv_iload_n hx hb dX2_degree_5 rfl (lv_at hl 2 rfl) ?_
  refine lv_ishl hx hb dX2_degree_6 ?_
  refine lv_istore (lv' := [(4, .int ((1 : Int32) <<< (a1 &&& 31))), (3, .int 1000), (0, .ref (hf_n F 0)), (1, .int a1), (2, .int a2)]) hx hb dX2_degree_7 hl (by decide) rfl (fun ls hl => ?_)
  refine lv_iconst (v := 0) hx hb dX2_degree_9 rfl ?_
  refine lv_istore (lv' := [(5, .int 0), (4, .int ((1 : Int32) <<< (a1 &&& 31))), (3, .int 1000), (0, .ref (hf_n F 0)), (1, .int a1), (2, .int a2)]) hx hb dX2_degree_10 hl (by decide) rfl (fun ls hl => ?_)
  obtain ⟨nn, hf⟩ := hf
  exact B12 nn a2 1000 ((1 : Int32) <<< (a1 &&& 31)) 0 () _ (lv_sub hl [3, 5, 2, 1, 0] rfl) hf
