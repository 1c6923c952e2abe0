set_option maxRecDepth 100000
def hw_J18_stringSize_b16 (g : hu_G) : Nat → Int32 → Int32 → Int32 → Int32 → hu_S → (Int32 → hu_S → Prop) → Prop
  | 0, _, _, _, _, _, _ => False
  | n16 + 1, v0_16, v1_16, v2_16, v3_16, σ16, Q => (10 ≤ v3_16 → Q (10 + v1_16) σ16) ∧ (¬ 10 ≤ v3_16 → (v0_16 ≤ v2_16 → hw_J18_stringSize_b16 g  n16 v0_16 v1_16 (10 * v2_16) (v3_16 + 1) σ16 Q) ∧ (¬ v0_16 ≤ v2_16 → Q (v3_16 + v1_16) σ16))
def hw_J18_stringSize (g : hu_G) (a0 : Int32) (υ : hu_S) (Q : Int32 → hu_S → Prop) : Prop := (a0 < 0 → ∃ n, hw_J18_stringSize_b16 g  n a0 1 (-10) 1 υ Q) ∧ (¬ a0 < 0 → ∃ n, hw_J18_stringSize_b16 g  n (-a0) 0 (-10) 1 υ Q)
set_option maxHeartbeats 4000000 in
set_option maxRecDepth 100000 in
theorem hk_J18_stringSize (l : Launch) (g : hu_G) (a0 : Int32) {υ : hu_S} {Q : Int32 → hu_S → Prop} (hf : hw_J18_stringSize g a0 υ Q) : Met l yJ18_stringSize (ws_ yJ18_stringSize cJ18_stringSize 4 (some .int)) (hu_R 0 0 υ.2.1 υ.2.2) (va_Pc [.int a0] (hu_U g υ)) (va_Qi Q (hu_B g) (hg_A g)) υ.2.1 υ.2.2 (hg_A g) := by
  refine hu_Mi (LV := [(0, .int a0)]) (by decide) rfl (Nat.le_of_ble_eq_true rfl) (fun p e s m args below meth c H locs cells slots ls QQ C M hin hl hret => ?_)
  have hx := C.1.1
  have hb := C.1.2.1
  unfold hw_J18_stringSize at hf
  have B16 : ∀ (n16 : Nat) (v0_16 : Int32) (v1_16 : Int32) (v2_16 : Int32) (v3_16 : Int32) (σ16 : hu_S) (H : Heap) (locs : List Loc) (cells slots : Nat) (ls : Array Slot), hu_M g s υ.2.1 υ.2.2 σ16 H locs cells slots → lv_has ls 4 [(0, .int v0_16), (1, .int v1_16), (2, .int v2_16), (3, .int v3_16)] → hw_J18_stringSize_b16 g  n16 v0_16 v1_16 v2_16 v3_16 σ16 Q → W p l e (hu_R 0 0 υ.2.1 υ.2.2) s m args below meth c H locs cells slots QQ (F0 m 16 ls []) := by
    intro n16
    induction n16 with
    | zero => intro v0_16 v1_16 v2_16 v3_16 σ16 H locs cells slots ls M hl hf; exact hf.elim
    | succ n16 ih16 =>
      intro v0_16 v1_16 v2_16 v3_16 σ16 H locs cells slots ls M hl hf
      refine lv_iload_n hx hb dJ18_stringSize_16 rfl (lv_at hl 3 rfl) ?_
      refine lv_bipush (v := 10) hx hb dJ18_stringSize_17 rfl ?_
      obtain ⟨hft, hff⟩ := hf
      refine lv_icmp_ge (tgt := 42) hx hb dJ18_stringSize_19 (by decide) (fun c1 => ?_) (fun c1 => ?_)
      · have hf := hft c1
        refine lv_bipush (v := 10) hx hb dJ18_stringSize_42 rfl ?_
        refine lv_iload_n hx hb dJ18_stringSize_44 rfl (lv_at hl 1 rfl) ?_
        refine lv_iadd hx hb dJ18_stringSize_45 ?_
        exact hret _ _ _ _ _ _ _ _ dJ18_stringSize_46 M hf
      · have hf := hff c1
        refine lv_iload_n hx hb dJ18_stringSize_22 rfl (lv_at hl 0 rfl) ?_
        refine lv_iload_n hx hb dJ18_stringSize_23 rfl (lv_at hl 2 rfl) ?_
        obtain ⟨hft, hff⟩ := hf
        refine lv_icmp_le (tgt := 31) hx hb dJ18_stringSize_24 (by decide) (fun c1 => ?_) (fun c1 => ?_)
        · have hf := hft c1
          refine lv_bipush (v := 10) hx hb dJ18_stringSize_31 rfl ?_
          refine lv_iload_n hx hb dJ18_stringSize_33 rfl (lv_at hl 2 rfl) ?_
          refine lv_imul hx hb dJ18_stringSize_34 ?_
          refine lv_istore_n (lv' := [(2, .int (10 * v2_16)), (0, .int v0_16), (1, .int v1_16), (3, .int v3_16)]) hx hb dJ18_stringSize_35 rfl hl (by decide) rfl (fun ls hl => ?_)
          refine lv_iinc (v := v3_16 + 1) (lv' := [(3, .int (v3_16 + 1)), (2, .int (10 * v2_16)), (0, .int v0_16), (1, .int v1_16)]) hx hb dJ18_stringSize_36 hl (k := 3) rfl rfl (by decide) rfl (fun ls hl => ?_)
          refine lv_goto (tgt := 16) hx hb dJ18_stringSize_39 (by decide) ?_
          exact ih16 v0_16 v1_16 (10 * v2_16) (v3_16 + 1) σ16 _ _ _ _ _ M (lv_sub hl [2, 3, 1, 0] rfl) hf
        · have hf := hff c1
          refine lv_iload_n hx hb dJ18_stringSize_27 rfl (lv_at hl 3 rfl) ?_
          refine lv_iload_n hx hb dJ18_stringSize_28 rfl (lv_at hl 1 rfl) ?_
          refine lv_iadd hx hb dJ18_stringSize_29 ?_
          exact hret _ _ _ _ _ _ _ _ dJ18_stringSize_30 M hf
  refine lv_iconst (v := 1) hx hb dJ18_stringSize_0 rfl ?_
  refine lv_istore_n (lv' := [(1, .int 1), (0, .int a0)]) hx hb dJ18_stringSize_1 rfl hl (by decide) rfl (fun ls hl => ?_)
  refine lv_iload_n hx hb dJ18_stringSize_2 rfl (lv_at hl 1 rfl) ?_
  obtain ⟨hft, hff⟩ := hf
  refine lv_if_lt (tgt := 11) hx hb dJ18_stringSize_3 (by decide) (fun c1 => ?_) (fun c1 => ?_)
  · have hf := hft c1
    refine lv_bipush (v := (-10)) hx hb dJ18_stringSize_11 rfl ?_
    refine lv_istore_n (lv' := [(2, .int (-10)), (1, .int 1), (0, .int a0)]) hx hb dJ18_stringSize_13 rfl hl (by decide) rfl (fun ls hl => ?_)
    refine lv_iconst (v := 1) hx hb dJ18_stringSize_14 rfl ?_
    refine lv_istore_n (lv' := [(3, .int 1), (2, .int (-10)), (1, .int 1), (0, .int a0)]) hx hb dJ18_stringSize_15 rfl hl (by decide) rfl (fun ls hl => ?_)
    obtain ⟨nn, hf⟩ := hf
    exact B16 nn a0 1 (-10) 1 υ _ _ _ _ _ M (lv_sub hl [3, 2, 1, 0] rfl) hf
  · have hf := hff c1
    refine lv_iconst (v := 0) hx hb dJ18_stringSize_6 rfl ?_
    refine lv_istore_n (lv' := [(1, .int 0), (0, .int a0)]) hx hb dJ18_stringSize_7 rfl hl (by decide) rfl (fun ls hl => ?_)
    refine lv_iload_n hx hb dJ18_stringSize_8 rfl (lv_at hl 1 rfl) ?_
    refine lv_ineg hx hb dJ18_stringSize_9 ?_
    refine lv_istore_n (lv' := [(0, .int (-a0)), (1, .int 0)]) hx hb dJ18_stringSize_10 rfl hl (by decide) rfl (fun ls hl => ?_)
    refine lv_bipush (v := (-10)) hx hb dJ18_stringSize_11 rfl ?_
    refine lv_istore_n (lv' := [(2, .int (-10)), (0, .int (-a0)), (1, .int 0)]) hx hb dJ18_stringSize_13 rfl hl (by decide) rfl (fun ls hl => ?_)
    refine lv_iconst (v := 1) hx hb dJ18_stringSize_14 rfl ?_
    refine lv_istore_n (lv' := [(3, .int 1), (2, .int (-10)), (0, .int (-a0)), (1, .int 0)]) hx hb dJ18_stringSize_15 rfl hl (by decide) rfl (fun ls hl => ?_)
    obtain ⟨nn, hf⟩ := hf
    exact B16 nn (-a0) 0 (-10) 1 υ _ _ _ _ _ M (lv_sub hl [2, 3, 1, 0] rfl) hf
def hw_J18_getChars_b104 (g : hu_G) (v2_104 : Nat) (v5_104 : Int32) (v6_104 : Int32) (σ104 : hu_S) (Q : Int32 → hu_S → Prop) : Prop := (v6_104 = 0 → Q v5_104 σ104) ∧ (¬ v6_104 = 0 → hu_sb σ104 v2_104 (v5_104 + (-1)) 45 (fun τ117 => (Q (v5_104 + (-1)) τ117)))
def hw_J18_getChars_b22 (g : hu_G) : Nat → Int32 → Nat → Int32 → Int32 → hu_S → (Int32 → hu_S → Prop) → Prop
  | 0, _, _, _, _, _, _ => False
  | n22 + 1, v0_22, v2_22, v5_22, v6_22, σ22, Q => ((-100) < v0_22 → hu_gb g σ22 (hg_z g 0) (-v0_22) (fun b83 => (hu_sb σ22 v2_22 (v5_22 + (-1)) b83 (fun τ84 => (((-9) ≤ v0_22 → hw_J18_getChars_b104 g  v2_22 (v5_22 + (-1)) v6_22 τ84 Q) ∧ (¬ (-9) ≤ v0_22 → hu_gb g τ84 (hg_z g 1) (-v0_22) (fun b102 => (hu_sb τ84 v2_22 ((v5_22 + (-1)) + (-1)) b102 (fun τ103 => (hw_J18_getChars_b104 g  v2_22 ((v5_22 + (-1)) + (-1)) v6_22 τ103 Q)))))))))) ∧ (¬ (-100) < v0_22 → hu_gb g σ22 (hg_z g 0) (((v0_22 / 100) * 100) - v0_22) (fun b54 => (hu_sb σ22 v2_22 (v5_22 + (-1)) b54 (fun τ55 => (hu_gb g τ55 (hg_z g 1) (((v0_22 / 100) * 100) - v0_22) (fun b67 => (hu_sb τ55 v2_22 ((v5_22 + (-1)) + (-1)) b67 (fun τ68 => (hw_J18_getChars_b22 g  n22 (v0_22 / 100) v2_22 ((v5_22 + (-1)) + (-1)) v6_22 τ68 Q)))))))))
def hw_J18_getChars_b12 (g : hu_G) (v0_12 : Int32) (v2_12 : Nat) (v5_12 : Int32) (t0_12 : Int32) (σ12 : hu_S) (Q : Int32 → hu_S → Prop) : Prop := (¬ t0_12 = 0 → ∃ n, hw_J18_getChars_b22 g  n v0_12 v2_12 v5_12 t0_12 σ12 Q) ∧ (t0_12 = 0 → ∃ n, hw_J18_getChars_b22 g  n (-v0_12) v2_12 v5_12 t0_12 σ12 Q)
def hw_J18_getChars (g : hu_G) (a0 : Int32) (a1 : Int32) (a2 : Nat) (υ : hu_S) (Q : Int32 → hu_S → Prop) : Prop := (0 ≤ a0 → hw_J18_getChars_b12 g  a0 a2 a1 0 υ Q) ∧ (¬ 0 ≤ a0 → hw_J18_getChars_b12 g  a0 a2 a1 1 υ Q)
set_option maxHeartbeats 4000000 in
set_option maxRecDepth 100000 in
theorem hk_J18_getChars (l : Launch) (g : hu_G) (a0 : Int32) (a1 : Int32) (a2 : Nat) {υ : hu_S} {Q : Int32 → hu_S → Prop} (hf : hw_J18_getChars g a0 a1 a2 υ Q) : Met l yJ18_getChars (ws_ yJ18_getChars cJ18_getChars 7 (some .int)) (hu_R 0 0 υ.2.1 υ.2.2) (va_Pc [.int a0, .int a1, .ref a2] (hu_U g υ)) (va_Qi Q (hu_B g) (hg_A g)) υ.2.1 υ.2.2 (hg_A g) := by
  refine hu_Mi (LV := [(0, .int a0), (1, .int a1), (2, .ref a2)]) (by decide) rfl (Nat.le_of_ble_eq_true rfl) (fun p e s m args below meth c H locs cells slots ls QQ C M hin hl hret => ?_)
  have hx := C.1.1
  have hb := C.1.2.1
  unfold hw_J18_getChars at hf
  have B104 : ∀ (v2_104 : Nat) (v5_104 : Int32) (v6_104 : Int32) (σ104 : hu_S) (H : Heap) (locs : List Loc) (cells slots : Nat) (ls : Array Slot), hu_M g s υ.2.1 υ.2.2 σ104 H locs cells slots → lv_has ls 7 [(2, .ref v2_104), (5, .int v5_104), (6, .int v6_104)] → hw_J18_getChars_b104 g  v2_104 v5_104 v6_104 σ104 Q → W p l e (hu_R 0 0 υ.2.1 υ.2.2) s m args below meth c H locs cells slots QQ (F0 m 104 ls []) := by
    intro v2_104 v5_104 v6_104 σ104 H locs cells slots ls M hl hf
    refine lv_iload hx hb dJ18_getChars_104 (lv_at hl 2 rfl) ?_
    obtain ⟨hft, hff⟩ := hf
    refine lv_if_eq (tgt := 118) hx hb dJ18_getChars_106 (by decide) (fun c1 => ?_) (fun c1 => ?_)
    · have hf := hft c1
      refine lv_iload hx hb dJ18_getChars_118 (lv_at hl 1 rfl) ?_
      exact hret _ _ _ _ _ _ _ _ dJ18_getChars_120 M hf
    · have hf := hff c1
      refine lv_aload_n hx hb dJ18_getChars_109 rfl (lv_at hl 0 rfl) ?_
      refine lv_iinc (v := v5_104 + (-1)) (lv' := [(5, .int (v5_104 + (-1))), (2, .ref v2_104), (6, .int v6_104)]) hx hb dJ18_getChars_110 hl (k := 1) rfl rfl (by decide) rfl (fun ls hl => ?_)
      refine lv_iload hx hb dJ18_getChars_113 (lv_at hl 0 rfl) ?_
      refine lv_bipush (v := 45) hx hb dJ18_getChars_115 rfl ?_
      obtain ⟨nn_117, ff_117, e_117, i_117, hf⟩ := hf
      refine hu_bast C M e_117 i_117 dJ18_getChars_117 (fun H locs M => ?_)
      generalize hu_set _ _ _ = τ117 at M hf
      refine lv_iload hx hb dJ18_getChars_118 (lv_at hl 0 rfl) ?_
      exact hret _ _ _ _ _ _ _ _ dJ18_getChars_120 M hf
  have B22 : ∀ (n22 : Nat) (v0_22 : Int32) (v2_22 : Nat) (v5_22 : Int32) (v6_22 : Int32) (σ22 : hu_S) (H : Heap) (locs : List Loc) (cells slots : Nat) (ls : Array Slot), hu_M g s υ.2.1 υ.2.2 σ22 H locs cells slots → lv_has ls 7 [(0, .int v0_22), (2, .ref v2_22), (5, .int v5_22), (6, .int v6_22)] → hw_J18_getChars_b22 g  n22 v0_22 v2_22 v5_22 v6_22 σ22 Q → W p l e (hu_R 0 0 υ.2.1 υ.2.2) s m args below meth c H locs cells slots QQ (F0 m 22 ls []) := by
    intro n22
    induction n22 with
    | zero => intro v0_22 v2_22 v5_22 v6_22 σ22 H locs cells slots ls M hl hf; exact hf.elim
    | succ n22 ih22 =>
      intro v0_22 v2_22 v5_22 v6_22 σ22 H locs cells slots ls M hl hf
      refine lv_iload_n hx hb dJ18_getChars_22 rfl (lv_at hl 0 rfl) ?_
      refine lv_bipush (v := (-100)) hx hb dJ18_getChars_23 rfl ?_
      obtain ⟨hft, hff⟩ := hf
      refine lv_icmp_gt (tgt := 72) hx hb dJ18_getChars_25 (by decide) (fun c1 => ?_) (fun c1 => ?_)
      · have hf := hft c1
        refine lv_aload_n hx hb dJ18_getChars_72 rfl (lv_at hl 1 rfl) ?_
        refine lv_iinc (v := v5_22 + (-1)) (lv' := [(5, .int (v5_22 + (-1))), (0, .int v0_22), (2, .ref v2_22), (6, .int v6_22)]) hx hb dJ18_getChars_73 hl (k := 2) rfl rfl (by decide) rfl (fun ls hl => ?_)
        refine lv_iload hx hb dJ18_getChars_76 (lv_at hl 0 rfl) ?_
        refine va_gets hx hb M.2.2.2.2.1.2.2.2.1 M.2.2.1 C.1.2.2.2.1 (C.1.2.2.2.2 _ q1638) (fun _ h => h) dJ18_getChars_78 ?_
        refine lv_iload_n hx hb dJ18_getChars_81 rfl (lv_at hl 1 rfl) ?_
        refine lv_ineg hx hb dJ18_getChars_82 ?_
        obtain ⟨nn_83, ff_83, e_83, i_83, hf⟩ := hf
        refine hu_bald C M e_83 i_83 dJ18_getChars_83 ?_
        generalize ff_83 (Int32.toNatClampNeg (-v0_22)) = b83 at hf ⊢
        obtain ⟨nn_84, ff_84, e_84, i_84, hf⟩ := hf
        refine hu_bast C M e_84 i_84 dJ18_getChars_84 (fun H locs M => ?_)
        generalize hu_set _ _ _ = τ84 at M hf
        refine lv_iload_n hx hb dJ18_getChars_85 rfl (lv_at hl 1 rfl) ?_
        refine lv_bipush (v := (-9)) hx hb dJ18_getChars_86 rfl ?_
        obtain ⟨hft, hff⟩ := hf
        refine lv_icmp_ge (tgt := 104) hx hb dJ18_getChars_88 (by decide) (fun c1 => ?_) (fun c1 => ?_)
        · have hf := hft c1
          exact B104 v2_22 (v5_22 + (-1)) v6_22 τ84 _ _ _ _ _ M (lv_sub hl [2, 0, 3] rfl) hf
        · have hf := hff c1
          refine lv_aload_n hx hb dJ18_getChars_91 rfl (lv_at hl 2 rfl) ?_
          refine lv_iinc (v := (v5_22 + (-1)) + (-1)) (lv' := [(5, .int ((v5_22 + (-1)) + (-1))), (0, .int v0_22), (2, .ref v2_22), (6, .int v6_22)]) hx hb dJ18_getChars_92 hl (k := 0) rfl rfl (by decide) rfl (fun ls hl => ?_)
          refine lv_iload hx hb dJ18_getChars_95 (lv_at hl 0 rfl) ?_
          refine va_gets hx hb M.2.2.2.2.1.2.2.2.2.1 M.2.2.1 C.1.2.2.2.1 (C.1.2.2.2.2 _ q1640) (fun _ h => h) dJ18_getChars_97 ?_
          refine lv_iload_n hx hb dJ18_getChars_100 rfl (lv_at hl 1 rfl) ?_
          refine lv_ineg hx hb dJ18_getChars_101 ?_
          obtain ⟨nn_102, ff_102, e_102, i_102, hf⟩ := hf
          refine hu_bald C M e_102 i_102 dJ18_getChars_102 ?_
          generalize ff_102 (Int32.toNatClampNeg (-v0_22)) = b102 at hf ⊢
          obtain ⟨nn_103, ff_103, e_103, i_103, hf⟩ := hf
          refine hu_bast C M e_103 i_103 dJ18_getChars_103 (fun H locs M => ?_)
          generalize hu_set _ _ _ = τ103 at M hf
          exact B104 v2_22 ((v5_22 + (-1)) + (-1)) v6_22 τ103 _ _ _ _ _ M (lv_sub hl [2, 0, 3] rfl) hf
      · have hf := hff c1
        refine lv_iload_n hx hb dJ18_getChars_28 rfl (lv_at hl 0 rfl) ?_
        refine lv_bipush (v := 100) hx hb dJ18_getChars_29 rfl ?_
        refine lv_idiv hx hb dJ18_getChars_31 (by decide) ?_
        refine lv_istore_n (lv' := [(3, .int (v0_22 / 100)), (0, .int v0_22), (2, .ref v2_22), (5, .int v5_22), (6, .int v6_22)]) hx hb dJ18_getChars_32 rfl hl (by decide) rfl (fun ls hl => ?_)
        refine lv_iload_n hx hb dJ18_getChars_33 rfl (lv_at hl 0 rfl) ?_
        refine lv_bipush (v := 100) hx hb dJ18_getChars_34 rfl ?_
        refine lv_imul hx hb dJ18_getChars_36 ?_
        refine lv_iload_n hx hb dJ18_getChars_37 rfl (lv_at hl 1 rfl) ?_
        refine lv_isub hx hb dJ18_getChars_38 ?_
        refine lv_istore (lv' := [(4, .int (((v0_22 / 100) * 100) - v0_22)), (3, .int (v0_22 / 100)), (0, .int v0_22), (2, .ref v2_22), (5, .int v5_22), (6, .int v6_22)]) hx hb dJ18_getChars_39 hl (by decide) rfl (fun ls hl => ?_)
        refine lv_iload_n hx hb dJ18_getChars_41 rfl (lv_at hl 1 rfl) ?_
        refine lv_istore_n (lv' := [(0, .int (v0_22 / 100)), (4, .int (((v0_22 / 100) * 100) - v0_22)), (3, .int (v0_22 / 100)), (2, .ref v2_22), (5, .int v5_22), (6, .int v6_22)]) hx hb dJ18_getChars_42 rfl hl (by decide) rfl (fun ls hl => ?_)
        refine lv_aload_n hx hb dJ18_getChars_43 rfl (lv_at hl 3 rfl) ?_
        refine lv_iinc (v := v5_22 + (-1)) (lv' := [(5, .int (v5_22 + (-1))), (0, .int (v0_22 / 100)), (4, .int (((v0_22 / 100) * 100) - v0_22)), (3, .int (v0_22 / 100)), (2, .ref v2_22), (6, .int v6_22)]) hx hb dJ18_getChars_44 hl (k := 4) rfl rfl (by decide) rfl (fun ls hl => ?_)
        refine lv_iload hx hb dJ18_getChars_47 (lv_at hl 0 rfl) ?_
        refine va_gets hx hb M.2.2.2.2.1.2.2.2.1 M.2.2.1 C.1.2.2.2.1 (C.1.2.2.2.2 _ q1638) (fun _ h => h) dJ18_getChars_49 ?_
        refine lv_iload hx hb dJ18_getChars_52 (lv_at hl 2 rfl) ?_
        obtain ⟨nn_54, ff_54, e_54, i_54, hf⟩ := hf
        refine hu_bald C M e_54 i_54 dJ18_getChars_54 ?_
        generalize ff_54 (Int32.toNatClampNeg (((v0_22 / 100) * 100) - v0_22)) = b54 at hf ⊢
        obtain ⟨nn_55, ff_55, e_55, i_55, hf⟩ := hf
        refine hu_bast C M e_55 i_55 dJ18_getChars_55 (fun H locs M => ?_)
        generalize hu_set _ _ _ = τ55 at M hf
        refine lv_aload_n hx hb dJ18_getChars_56 rfl (lv_at hl 4 rfl) ?_
        refine lv_iinc (v := (v5_22 + (-1)) + (-1)) (lv' := [(5, .int ((v5_22 + (-1)) + (-1))), (0, .int (v0_22 / 100)), (4, .int (((v0_22 / 100) * 100) - v0_22)), (3, .int (v0_22 / 100)), (2, .ref v2_22), (6, .int v6_22)]) hx hb dJ18_getChars_57 hl (k := 0) rfl rfl (by decide) rfl (fun ls hl => ?_)
        refine lv_iload hx hb dJ18_getChars_60 (lv_at hl 0 rfl) ?_
        refine va_gets hx hb M.2.2.2.2.1.2.2.2.2.1 M.2.2.1 C.1.2.2.2.1 (C.1.2.2.2.2 _ q1640) (fun _ h => h) dJ18_getChars_62 ?_
        refine lv_iload hx hb dJ18_getChars_65 (lv_at hl 2 rfl) ?_
        obtain ⟨nn_67, ff_67, e_67, i_67, hf⟩ := hf
        refine hu_bald C M e_67 i_67 dJ18_getChars_67 ?_
        generalize ff_67 (Int32.toNatClampNeg (((v0_22 / 100) * 100) - v0_22)) = b67 at hf ⊢
        obtain ⟨nn_68, ff_68, e_68, i_68, hf⟩ := hf
        refine hu_bast C M e_68 i_68 dJ18_getChars_68 (fun H locs M => ?_)
        generalize hu_set _ _ _ = τ68 at M hf
        refine lv_goto (tgt := 22) hx hb dJ18_getChars_69 (by decide) ?_
        exact ih22 (v0_22 / 100) v2_22 ((v5_22 + (-1)) + (-1)) v6_22 τ68 _ _ _ _ _ M (lv_sub hl [1, 4, 0, 5] rfl) hf
  have B12 : ∀ (v0_12 : Int32) (v2_12 : Nat) (v5_12 : Int32) (t0_12 : Int32) (σ12 : hu_S) (H : Heap) (locs : List Loc) (cells slots : Nat) (ls : Array Slot), hu_M g s υ.2.1 υ.2.2 σ12 H locs cells slots → lv_has ls 7 [(0, .int v0_12), (2, .ref v2_12), (5, .int v5_12)] → hw_J18_getChars_b12 g  v0_12 v2_12 v5_12 t0_12 σ12 Q → W p l e (hu_R 0 0 υ.2.1 υ.2.2) s m args below meth c H locs cells slots QQ (F0 m 12 ls [.int t0_12]) := by
    intro v0_12 v2_12 v5_12 t0_12 σ12 H locs cells slots ls M hl hf
    refine lv_istore (lv' := [(6, .int t0_12), (0, .int v0_12), (2, .ref v2_12), (5, .int v5_12)]) hx hb dJ18_getChars_12 hl (by decide) rfl (fun ls hl => ?_)
    refine lv_iload hx hb dJ18_getChars_14 (lv_at hl 0 rfl) ?_
    obtain ⟨hft, hff⟩ := hf
    refine lv_if_ne (tgt := 22) hx hb dJ18_getChars_16 (by decide) (fun c1 => ?_) (fun c1 => ?_)
    · have hf := hft c1
      obtain ⟨nn, hf⟩ := hf
      exact B22 nn v0_12 v2_12 v5_12 t0_12 σ12 _ _ _ _ _ M (lv_sub hl [1, 2, 3, 0] rfl) hf
    · have hf := hff c1
      refine lv_iload_n hx hb dJ18_getChars_19 rfl (lv_at hl 1 rfl) ?_
      refine lv_ineg hx hb dJ18_getChars_20 ?_
      refine lv_istore_n (lv' := [(0, .int (-v0_12)), (6, .int t0_12), (2, .ref v2_12), (5, .int v5_12)]) hx hb dJ18_getChars_21 rfl hl (by decide) rfl (fun ls hl => ?_)
      obtain ⟨nn, hf⟩ := hf
      exact B22 nn (-v0_12) v2_12 v5_12 t0_12 σ12 _ _ _ _ _ M (lv_sub hl [0, 2, 3, 1] rfl) hf
  refine lv_iload_n hx hb dJ18_getChars_0 rfl (lv_at hl 1 rfl) ?_
  refine lv_istore (lv' := [(5, .int a1), (0, .int a0), (1, .int a1), (2, .ref a2)]) hx hb dJ18_getChars_1 hl (by decide) rfl (fun ls hl => ?_)
  refine lv_iload_n hx hb dJ18_getChars_3 rfl (lv_at hl 1 rfl) ?_
  obtain ⟨hft, hff⟩ := hf
  refine lv_if_ge (tgt := 11) hx hb dJ18_getChars_4 (by decide) (fun c1 => ?_) (fun c1 => ?_)
  · have hf := hft c1
    refine lv_iconst (v := 0) hx hb dJ18_getChars_11 rfl ?_
    exact B12 a0 a2 a1 0 υ _ _ _ _ _ M (lv_sub hl [1, 3, 0] rfl) hf
  · have hf := hff c1
    refine lv_iconst (v := 1) hx hb dJ18_getChars_7 rfl ?_
    refine lv_goto (tgt := 12) hx hb dJ18_getChars_8 (by decide) ?_
    exact B12 a0 a2 a1 1 υ _ _ _ _ _ M (lv_sub hl [1, 3, 0] rfl) hf
def hw_J11_append_3 (g : hu_G) (o : Nat) (a1 : Int32) (υ : hu_S) (Q : Nat → hu_S → Prop) : Prop := hu_gi g υ o 2 3 (fun x1 => (hu_c υ (hw_J18_stringSize g a1) (fun r7 τ7 => (hu_k g τ7 o 2 ∧ (hu_cv τ7 (hw_J11_ensureCapacityInternal g o (x1 + r7)) (fun τ14 => (hu_k g τ14 o 2 ∧ (hu_c τ14 (hw_J11_isLatin1 g o) (fun r18 τ18 => ((r18 = 0 → hu_gr g τ18 o 2 0 (fun x41 => (False))) ∧ (¬ r18 = 0 → hu_gr g τ18 o 2 0 (fun x27 => (hu_c τ18 (hw_J18_getChars g a1 (x1 + r7) x27) (fun r30 τ30 => (hu_pt τ30 o 2 3 (.int (x1 + r7)) (fun τ50 => (Q o τ50)))))))))))))))))
set_option maxHeartbeats 4000000 in
set_option maxRecDepth 100000 in
theorem hk_J11_append_3 (l : Launch) (g : hu_G) (o : Nat) (a1 : Int32) {υ : hu_S} {Q : Nat → hu_S → Prop} (hf : hw_J11_append_3 g o a1 υ Q) : Met l yJ11_append_3 (ws_ yJ11_append_3 cJ11_append_3 4 (some (.object "java/lang/AbstractStringBuilder"))) (hu_R 4 91 υ.2.1 υ.2.2) (va_Pc [.ref o, .int a1] (hu_U g υ)) (va_Qr (fun _ : hu_S => True) (fun u r t => Q r u ∧ hu_V g u t.heap) (hg_A g)) υ.2.1 υ.2.2 (hg_A g) := by
  refine hu_Mr (Or.inl ⟨_, rfl⟩) (LV := [(0, .ref o), (1, .int a1)]) (by decide) rfl (Nat.le_of_ble_eq_true rfl) (fun p e s m args below meth c H locs cells slots ls QQ C M hin hl hret => ?_)
  have hx := C.1.1
  have hb := C.1.2.1
  unfold hw_J11_append_3 at hf
  refine lv_aload_n hx hb dJ11_append_3_0 rfl (lv_at hl 0 rfl) ?_
  obtain ⟨x1, e_1, hf⟩ := hf
  refine hu_get C M e_1 (CN := RJ12) (T := TJ12) (N := 4) rfl in_J12 (by decide) q662 dJ11_append_3_1 ?_
  refine lv_istore_n (lv' := [(2, .int x1), (0, .ref o), (1, .int a1)]) hx hb dJ11_append_3_4 rfl hl (by decide) rfl (fun ls hl => ?_)
  refine lv_iload_n hx hb dJ11_append_3_5 rfl (lv_at hl 0 rfl) ?_
  refine lv_iload_n hx hb dJ11_append_3_6 rfl (lv_at hl 2 rfl) ?_
  obtain ⟨cc_7, cs_7, h1_7, h2_7, hf⟩ := hf
  refine hu_ki M h1_7 h2_7 (hu_rS C M hl.1 (Nat.le_refl _) (Nat.le_refl _) h1_7 h2_7 (As := [.int a1]) (rest := [.int x1]) (n := 1) (hk_J18_stringSize l g a1 (υ := (υ.1, cc_7, cs_7)) hf) q1632 q1633 q154 q1634 (by decide +kernel) rfl ⟨Nat.le_of_ble_eq_true rfl, Nat.le_of_ble_eq_true rfl⟩ rfl (Nat.le_of_ble_eq_true rfl) dJ11_append_3_7) (fun r7 u9 H locs hf M => ?_)
  generalize (u9.1, υ.2.1 - cc_7, υ.2.2 - cs_7) = τ7 at M hf
  generalize cells + cc_7 = cells at M ⊢
  generalize slots + cs_7 = slots at M ⊢
  refine lv_iadd hx hb dJ11_append_3_10 ?_
  refine lv_istore_n (lv' := [(3, .int (x1 + r7)), (2, .int x1), (0, .ref o), (1, .int a1)]) hx hb dJ11_append_3_11 rfl hl (by decide) rfl (fun ls hl => ?_)
  refine lv_aload_n hx hb dJ11_append_3_12 rfl (lv_at hl 2 rfl) ?_
  refine lv_iload_n hx hb dJ11_append_3_13 rfl (lv_at hl 0 rfl) ?_
  obtain ⟨g_14, hf⟩ := hf
  obtain ⟨cc_14, cs_14, h1_14, h2_14, hf⟩ := hf
  refine hu_kv M h1_14 h2_14 (hu_rU C M hl.1 (Nat.le_refl _) (Nat.le_refl _) h1_14 h2_14 g_14 rfl (As := [.int (x1 + r7)]) (rest := []) (n := 1) (hk_J11_ensureCapacityInternal l g o (x1 + r7) (υ := (τ7.1, cc_14, cs_14)) hf) q679 q2715 (va_Decl.of (C.1.2.2.2.2 _ q681) (C.1.2.2.2.2 _ q682)) q681 (M.2.2.2.2.1.2.2.2.2.2.2.2.2.2 _ (List.mem_of_getElem? (i := 0) rfl) _) q143 q682 (by decide +kernel) rfl ⟨Nat.le_of_ble_eq_true rfl, Nat.le_of_ble_eq_true rfl⟩ rfl (Nat.le_of_ble_eq_true rfl) dJ11_append_3_14) (fun u9 H locs hf M => ?_)
  generalize (u9.1, τ7.2.1 - cc_14, τ7.2.2 - cs_14) = τ14 at M hf
  generalize cells + cc_14 = cells at M ⊢
  generalize slots + cs_14 = slots at M ⊢
  refine lv_aload_n hx hb dJ11_append_3_17 rfl (lv_at hl 2 rfl) ?_
  obtain ⟨g_18, hf⟩ := hf
  obtain ⟨cc_18, cs_18, h1_18, h2_18, hf⟩ := hf
  refine hu_ki M h1_18 h2_18 (hu_rU C M hl.1 (Nat.le_refl _) (Nat.le_refl _) h1_18 h2_18 g_18 rfl (As := []) (rest := []) (n := 0) (hk_J11_isLatin1 l g o (υ := (τ14.1, cc_18, cs_18)) hf) q714 q716 (va_Decl.of (C.1.2.2.2.2 _ q715) (C.1.2.2.2.2 _ q718)) q715 (C.1.2.2.2.2 _ q717) q143 q718 (by decide +kernel) rfl ⟨Nat.le_of_ble_eq_true rfl, Nat.le_of_ble_eq_true rfl⟩ rfl (Nat.le_of_ble_eq_true rfl) dJ11_append_3_18) (fun r18 u9 H locs hf M => ?_)
  generalize (u9.1, τ14.2.1 - cc_18, τ14.2.2 - cs_18) = τ18 at M hf
  generalize cells + cc_18 = cells at M ⊢
  generalize slots + cs_18 = slots at M ⊢
  obtain ⟨hft, hff⟩ := hf
  refine lv_if_eq (tgt := 37) hx hb dJ11_append_3_21 (by decide) (fun c1 => ?_) (fun c1 => ?_)
  · have hf := hft c1
    refine lv_iload_n hx hb dJ11_append_3_37 rfl (lv_at hl 3 rfl) ?_
    refine lv_iload_n hx hb dJ11_append_3_38 rfl (lv_at hl 1 rfl) ?_
    refine lv_iload_n hx hb dJ11_append_3_39 rfl (lv_at hl 0 rfl) ?_
    refine lv_aload_n hx hb dJ11_append_3_40 rfl (lv_at hl 2 rfl) ?_
    obtain ⟨x41, e_41, hf⟩ := hf
    refine hu_get C M e_41 (CN := RJ12) (T := TJ12) (N := 4) rfl in_J12 (by decide) q659 dJ11_append_3_41 ?_
    exact hf.elim
  · have hf := hff c1
    refine lv_iload_n hx hb dJ11_append_3_24 rfl (lv_at hl 3 rfl) ?_
    refine lv_iload_n hx hb dJ11_append_3_25 rfl (lv_at hl 0 rfl) ?_
    refine lv_aload_n hx hb dJ11_append_3_26 rfl (lv_at hl 2 rfl) ?_
    obtain ⟨x27, e_27, hf⟩ := hf
    refine hu_get C M e_27 (CN := RJ12) (T := TJ12) (N := 4) rfl in_J12 (by decide) q659 dJ11_append_3_27 ?_
    obtain ⟨cc_30, cs_30, h1_30, h2_30, hf⟩ := hf
    refine hu_ki M h1_30 h2_30 (hu_rS C M hl.1 (Nat.le_refl _) (Nat.le_refl _) h1_30 h2_30 (As := [.int a1, .int (x1 + r7), .ref x27]) (rest := []) (n := 3) (hk_J18_getChars l g a1 (x1 + r7) x27 (υ := (τ18.1, cc_30, cs_30)) hf) q1635 q1636 q154 q1637 (by decide +kernel) rfl ⟨Nat.le_of_ble_eq_true rfl, Nat.le_of_ble_eq_true rfl⟩ rfl (Nat.le_of_ble_eq_true rfl) dJ11_append_3_30) (fun r30 u9 H locs hf M => ?_)
    generalize (u9.1, τ18.2.1 - cc_30, τ18.2.2 - cs_30) = τ30 at M hf
    generalize cells + cc_30 = cells at M ⊢
    generalize slots + cs_30 = slots at M ⊢
    refine lv_pop hx hb dJ11_append_3_33 rfl ?_
    refine lv_goto (tgt := 48) hx hb dJ11_append_3_34 (by decide) ?_
    refine lv_aload_n hx hb dJ11_append_3_48 rfl (lv_at hl 2 rfl) ?_
    refine lv_iload_n hx hb dJ11_append_3_49 rfl (lv_at hl 0 rfl) ?_
    obtain ⟨g_50, hf⟩ := hf
    refine hu_put0 C M g_50 (CN := RJ12) (T := TJ12) (N := 4) rfl in_J12 tyJ12 tyJ12_ok nmJ12 (by decide) q662 rfl (ty := .int) (by decide +kernel) rfl rfl dJ11_append_3_50 (fun H locs M => ?_)
    generalize hu_put τ30 o 3 (.int (x1 + r7)) = τ50 at M hf
    refine lv_aload_n hx hb dJ11_append_3_53 rfl (lv_at hl 2 rfl) ?_
    exact hret _ _ _ _ _ _ _ _ dJ11_append_3_54 M hf
def hw_J12_append_4 (g : hu_G) (o : Nat) (a1 : Int32) (υ : hu_S) (Q : Nat → hu_S → Prop) : Prop := hu_k g υ o 2 ∧ (hu_c υ (hw_J11_append_3 g o a1) (fun r2 τ2 => (Q o τ2)))
set_option maxHeartbeats 4000000 in
set_option maxRecDepth 100000 in
theorem hk_J12_append_4 (l : Launch) (g : hu_G) (o : Nat) (a1 : Int32) {υ : hu_S} {Q : Nat → hu_S → Prop} (hf : hw_J12_append_4 g o a1 υ Q) : Met l yJ12_append_4 (ws_ yJ12_append_4 cJ12_append_4 2 (some (.object "java/lang/StringBuilder"))) (hu_R 5 114 υ.2.1 υ.2.2) (va_Pc [.ref o, .int a1] (hu_U g υ)) (va_Qr (fun _ : hu_S => True) (fun u r t => Q r u ∧ hu_V g u t.heap) (hg_A g)) υ.2.1 υ.2.2 (hg_A g) := by
  refine hu_Mr (Or.inl ⟨_, rfl⟩) (LV := [(0, .ref o), (1, .int a1)]) (by decide) rfl (Nat.le_of_ble_eq_true rfl) (fun p e s m args below meth c H locs cells slots ls QQ C M hin hl hret => ?_)
  have hx := C.1.1
  have hb := C.1.2.1
  unfold hw_J12_append_4 at hf
  refine lv_aload_n hx hb dJ12_append_4_0 rfl (lv_at hl 0 rfl) ?_
  refine lv_iload_n hx hb dJ12_append_4_1 rfl (lv_at hl 1 rfl) ?_
  obtain ⟨g_2, hf⟩ := hf
  obtain ⟨cc_2, cs_2, h1_2, h2_2, hf⟩ := hf
  refine hu_kr M h1_2 h2_2 (hu_rSU C M hl.1 (Nat.le_refl _) (Nat.le_refl _) h1_2 h2_2 g_2 rfl (As := [.int a1]) (rest := []) (n := 1) (hk_J11_append_3 l g o a1 (υ := (υ.1, cc_2, cs_2)) hf) q1629 q2743 q671 q1630 q143 q1631 (by decide +kernel) rfl ⟨Nat.le_of_ble_eq_true rfl, Nat.le_of_ble_eq_true rfl⟩ rfl (Nat.le_of_ble_eq_true rfl) dJ12_append_4_2) (fun r2 u9 H locs hf M => ?_)
  generalize (u9.1, υ.2.1 - cc_2, υ.2.2 - cs_2) = τ2 at M hf
  generalize cells + cc_2 = cells at M ⊢
  generalize slots + cs_2 = slots at M ⊢
  refine lv_pop hx hb dJ12_append_4_5 rfl ?_
  refine lv_aload_n hx hb dJ12_append_4_6 rfl (lv_at hl 0 rfl) ?_
  exact hret _ _ _ _ _ _ _ _ dJ12_append_4_7 M hf
