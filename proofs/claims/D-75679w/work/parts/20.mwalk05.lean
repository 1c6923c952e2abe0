set_option maxRecDepth 100000
def hw_does_b240 (v1_240 : Int32) (v5_240 : Int32) (σ240 : hm_S) (Q : Int32 → hm_S → Prop) : Prop := (v5_240 ≤ 0 → Q 0 σ240) ∧ (¬ v5_240 ≤ 0 → Q (v5_240 + (10 * v1_240)) σ240)
def hw_does_b227 (v1_227 : Int32) (v2_227 : Int32) (t0_227 : Int32) (σ227 : hm_S) (Q : Int32 → hm_S → Prop) : Prop := (¬ t0_227 = 0 → hw_does_b240  v1_227 t0_227 σ227 Q) ∧ (t0_227 = 0 → hw_goesOn v2_227 σ227 (fun r_236 σ_236 => (hw_does_b240  v1_227 t0_227 σ_236 Q)))
def hw_does_b192 (v1_192 : Int32) (v2_192 : Int32) (t0_192 : Int32) (σ192 : hm_S) (Q : Int32 → hm_S → Prop) : Prop := (¬ t0_192 = 0 → hw_does_b240  v1_192 t0_192 σ192 Q) ∧ (t0_192 = 0 → hw_revokes v2_192 σ192 (fun σ_201 => (hw_does_b240  v1_192 t0_192 σ_201 Q)))
def hw_does_b111 (v1_111 : Int32) (v2_111 : Int32) (t0_111 : Int32) (σ111 : hm_S) (Q : Int32 → hm_S → Prop) : Prop := (¬ t0_111 = 0 → hw_does_b240  v1_111 t0_111 σ111 Q) ∧ (t0_111 = 0 → hw_parts0 v2_111 σ111 (fun σ_120 => (hw_does_b240  v1_111 t0_111 σ_120 Q)))
def hw_does_b57 (v1_57 : Int32) (v2_57 : Int32) (t0_57 : Int32) (σ57 : hm_S) (Q : Int32 → hm_S → Prop) : Prop := (¬ t0_57 = 0 → hw_does_b240  v1_57 t0_57 σ57 Q) ∧ (t0_57 = 0 → hw_dies v2_57 σ57 (fun σ_66 => (hw_does_b240  v1_57 t0_57 σ_66 Q)))
def hw_does (a1 : Int32) (a2 : Int32) (a3 : Int32) (a4 : Int32) (σ : hm_S) (Q : Int32 → hm_S → Prop) : Prop := (a1 = 0 → hw_isLiving a2 σ (fun r_46 σ_46 => ((r_46 = 0 → hw_does_b57  a1 a2 1 σ_46 Q) ∧ (¬ r_46 = 0 → hw_does_b57  a1 a2 0 σ_46 Q)))) ∧ (a1 = 1 → hw_whyWed a2 a3 σ (fun r_75 σ_75 => ((¬ r_75 = 0 → hw_does_b240  a1 r_75 σ_75 Q) ∧ (r_75 = 0 → hw_weds a2 a3 σ_75 (fun σ_88 => (hw_does_b240  a1 r_75 σ_88 Q)))))) ∧ (a1 = 2 → vp_in (117 + a2) 346 ∧ ((¬ (hm_gA σ 6 (117 + a2)) = 0 → hw_does_b111  a1 a2 0 σ Q) ∧ ((hm_gA σ 6 (117 + a2)) = 0 → hw_does_b111  a1 a2 1 σ Q))) ∧ (a1 = 3 → hw_whyGive a2 a3 a4 σ (fun r_131 σ_131 => ((¬ r_131 = 0 → hw_does_b240  a1 r_131 σ_131 Q) ∧ (r_131 = 0 → hw_gives a2 a3 a4 σ_131 (fun σ_146 => (hw_does_b240  a1 r_131 σ_146 Q)))))) ∧ (a1 = 4 → hw_whyLeave a2 a3 σ (fun r_155 σ_155 => ((¬ r_155 = 0 → hw_does_b240  a1 r_155 σ_155 Q) ∧ (r_155 = 0 → hw_leaves a2 a3 a4 σ_155 (fun σ_170 => (hw_does_b240  a1 r_155 σ_170 Q)))))) ∧ (a1 = 5 → hw_ofPerson 129 a2 σ (fun r_181 σ_181 => ((¬ r_181 = 0 → hw_does_b192  a1 a2 0 σ_181 Q) ∧ (r_181 = 0 → hw_does_b192  a1 a2 1 σ_181 Q)))) ∧ (¬ a1 = 0 → ¬ a1 = 1 → ¬ a1 = 2 → ¬ a1 = 3 → ¬ a1 = 4 → ¬ a1 = 5 → vp_in 100 346 ∧ ((((hm_gA σ 6 100) + a2) ≤ 199 → hw_does_b227  a1 a2 0 σ Q) ∧ (¬ ((hm_gA σ 6 100) + a2) ≤ 199 → hw_does_b227  a1 a2 1 σ Q)))
set_option maxHeartbeats 4000000 in
set_option maxRecDepth 100000 in
theorem hk_does (l : Launch) (D : va_G) (dA : Nat → ClassId) (o : Nat) (b : Nat → Nat) (hB : hm_D dA o b) (a1 : Int32) (a2 : Int32) (a3 : Int32) (a4 : Int32) (σ : hm_S) {Q : Int32 → hm_S → Prop} (hf : hw_does a1 a2 a3 a4 σ Q) : Met l yX5_does (ws_ yX5_does cX5_does 6 (some .int)) (hb_R 9 207) (va_Pc [.ref o, .int a1, .int a2, .int a3, .int a4] (hm_U D dA o b σ)) (va_Qi Q (hm_U D dA o b) (hm_A o b)) 0 0 (hm_A o b) := by
  refine hm_Mi hB (LV := [(0, .ref o), (1, .int a1), (2, .int a2), (3, .int a3), (4, .int a4)]) (by decide) rfl (Nat.le_of_ble_eq_true rfl) (fun p e s m args below meth c ls QQ C M hl hret => ?_)
  have hx := C.1.1
  have hb := C.1.2.1
  have B240 : ∀ (v1_240 : Int32) (v5_240 : Int32) (σ240 : hm_S) (H : Heap) (locs : List Loc) (ls : Array Slot), hm_M D dA o b s.heap σ240 H locs → lv_has ls 6 [(0, .ref o), (1, .int v1_240), (5, .int v5_240)] → hw_does_b240  v1_240 v5_240 σ240 Q → W p l e (hb_R 9 207) s m args below meth c H locs 0 0 QQ (F0 m 240 ls []) := by
    intro v1_240 v5_240 σ240 H locs ls M hl hf
    refine lv_iload hx hb dX5_does_240 (lv_at hl 2 rfl) ?_
    obtain ⟨hft, hff⟩ := hf
    refine lv_if_le (tgt := 255) hx hb dX5_does_242 (by decide) (fun c1 => ?_) (fun c1 => ?_)
    · have hf := hft c1
      refine lv_iconst (v := 0) hx hb dX5_does_255 rfl ?_
      exact hret _ _ _ _ _ _ dX5_does_256 M hf
    · have hf := hff c1
      refine lv_iload hx hb dX5_does_245 (lv_at hl 2 rfl) ?_
      refine lv_bipush (v := 10) hx hb dX5_does_247 rfl ?_
      refine lv_iload_n hx hb dX5_does_249 rfl (lv_at hl 1 rfl) ?_
      refine lv_imul hx hb dX5_does_250 ?_
      refine lv_iadd hx hb dX5_does_251 ?_
      refine lv_goto (tgt := 256) hx hb dX5_does_252 (by decide) ?_
      exact hret _ _ _ _ _ _ dX5_does_256 M hf
  have B227 : ∀ (v1_227 : Int32) (v2_227 : Int32) (t0_227 : Int32) (σ227 : hm_S) (H : Heap) (locs : List Loc) (ls : Array Slot), hm_M D dA o b s.heap σ227 H locs → lv_has ls 6 [(0, .ref o), (1, .int v1_227), (2, .int v2_227)] → hw_does_b227  v1_227 v2_227 t0_227 σ227 Q → W p l e (hb_R 9 207) s m args below meth c H locs 0 0 QQ (F0 m 227 ls [.int t0_227]) := by
    intro v1_227 v2_227 t0_227 σ227 H locs ls M hl hf
    refine lv_istore (lv' := [(5, .int t0_227), (0, .ref o), (1, .int v1_227), (2, .int v2_227)]) hx hb dX5_does_227 hl (by decide) rfl (fun ls hl => ?_)
    refine lv_iload hx hb dX5_does_229 (lv_at hl 0 rfl) ?_
    obtain ⟨hft, hff⟩ := hf
    refine lv_if_ne (tgt := 240) hx hb dX5_does_231 (by decide) (fun c1 => ?_) (fun c1 => ?_)
    · have hf := hft c1
      exact B240 v1_227 t0_227 σ227 _ _ _ M (lv_sub hl [1, 2, 0] rfl) hf
    · have hf := hff c1
      refine lv_aload_n hx hb dX5_does_234 rfl (lv_at hl 1 rfl) ?_
      refine lv_iload_n hx hb dX5_does_235 rfl (lv_at hl 3 rfl) ?_
      refine hm_ci C M hl.1 (As := [.int v2_227]) (rest := []) (hk_goesOn l D dA o b hB v2_227 σ227 hf) (n := 1) q2484 q2486 qs96 q140 q2487 (by decide +kernel) rfl ⟨Nat.le_of_ble_eq_true rfl, Nat.le_of_ble_eq_true rfl⟩ rfl (Nat.le_of_ble_eq_true rfl) dX5_does_236 (fun r_236 σ_236 H locs hf M => ?_)
      refine lv_pop hx hb dX5_does_239 rfl ?_
      exact B240 v1_227 t0_227 σ_236 _ _ _ M (lv_sub hl [1, 2, 0] rfl) hf
  have B192 : ∀ (v1_192 : Int32) (v2_192 : Int32) (t0_192 : Int32) (σ192 : hm_S) (H : Heap) (locs : List Loc) (ls : Array Slot), hm_M D dA o b s.heap σ192 H locs → lv_has ls 6 [(0, .ref o), (1, .int v1_192), (2, .int v2_192)] → hw_does_b192  v1_192 v2_192 t0_192 σ192 Q → W p l e (hb_R 9 207) s m args below meth c H locs 0 0 QQ (F0 m 192 ls [.int t0_192]) := by
    intro v1_192 v2_192 t0_192 σ192 H locs ls M hl hf
    refine lv_istore (lv' := [(5, .int t0_192), (0, .ref o), (1, .int v1_192), (2, .int v2_192)]) hx hb dX5_does_192 hl (by decide) rfl (fun ls hl => ?_)
    refine lv_iload hx hb dX5_does_194 (lv_at hl 0 rfl) ?_
    obtain ⟨hft, hff⟩ := hf
    refine lv_if_ne (tgt := 240) hx hb dX5_does_196 (by decide) (fun c1 => ?_) (fun c1 => ?_)
    · have hf := hft c1
      exact B240 v1_192 t0_192 σ192 _ _ _ M (lv_sub hl [1, 2, 0] rfl) hf
    · have hf := hff c1
      refine lv_aload_n hx hb dX5_does_199 rfl (lv_at hl 1 rfl) ?_
      refine lv_iload_n hx hb dX5_does_200 rfl (lv_at hl 3 rfl) ?_
      refine hm_cv C M hl.1 (As := [.int v2_192]) (rest := []) (hk_revokes l D dA o b hB v2_192 σ192 hf) (n := 1) q2408 q2410 qs83 q140 q2411 (by decide +kernel) rfl ⟨Nat.le_of_ble_eq_true rfl, Nat.le_of_ble_eq_true rfl⟩ rfl (Nat.le_of_ble_eq_true rfl) dX5_does_201 (fun σ_201 H locs hf M => ?_)
      refine lv_goto (tgt := 240) hx hb dX5_does_204 (by decide) ?_
      exact B240 v1_192 t0_192 σ_201 _ _ _ M (lv_sub hl [1, 2, 0] rfl) hf
  have B111 : ∀ (v1_111 : Int32) (v2_111 : Int32) (t0_111 : Int32) (σ111 : hm_S) (H : Heap) (locs : List Loc) (ls : Array Slot), hm_M D dA o b s.heap σ111 H locs → lv_has ls 6 [(0, .ref o), (1, .int v1_111), (2, .int v2_111)] → hw_does_b111  v1_111 v2_111 t0_111 σ111 Q → W p l e (hb_R 9 207) s m args below meth c H locs 0 0 QQ (F0 m 111 ls [.int t0_111]) := by
    intro v1_111 v2_111 t0_111 σ111 H locs ls M hl hf
    refine lv_istore (lv' := [(5, .int t0_111), (0, .ref o), (1, .int v1_111), (2, .int v2_111)]) hx hb dX5_does_111 hl (by decide) rfl (fun ls hl => ?_)
    refine lv_iload hx hb dX5_does_113 (lv_at hl 0 rfl) ?_
    obtain ⟨hft, hff⟩ := hf
    refine lv_if_ne (tgt := 240) hx hb dX5_does_115 (by decide) (fun c1 => ?_) (fun c1 => ?_)
    · have hf := hft c1
      exact B240 v1_111 t0_111 σ111 _ _ _ M (lv_sub hl [1, 2, 0] rfl) hf
    · have hf := hff c1
      refine lv_aload_n hx hb dX5_does_118 rfl (lv_at hl 1 rfl) ?_
      refine lv_iload_n hx hb dX5_does_119 rfl (lv_at hl 3 rfl) ?_
      refine hm_cv C M hl.1 (As := [.int v2_111]) (rest := []) (hk_parts0 l D dA o b hB v2_111 σ111 hf) (n := 1) q2401 q2403 qs82 q140 q2404 (by decide +kernel) rfl ⟨Nat.le_of_ble_eq_true rfl, Nat.le_of_ble_eq_true rfl⟩ rfl (Nat.le_of_ble_eq_true rfl) dX5_does_120 (fun σ_120 H locs hf M => ?_)
      refine lv_goto (tgt := 240) hx hb dX5_does_123 (by decide) ?_
      exact B240 v1_111 t0_111 σ_120 _ _ _ M (lv_sub hl [1, 2, 0] rfl) hf
  have B57 : ∀ (v1_57 : Int32) (v2_57 : Int32) (t0_57 : Int32) (σ57 : hm_S) (H : Heap) (locs : List Loc) (ls : Array Slot), hm_M D dA o b s.heap σ57 H locs → lv_has ls 6 [(0, .ref o), (1, .int v1_57), (2, .int v2_57)] → hw_does_b57  v1_57 v2_57 t0_57 σ57 Q → W p l e (hb_R 9 207) s m args below meth c H locs 0 0 QQ (F0 m 57 ls [.int t0_57]) := by
    intro v1_57 v2_57 t0_57 σ57 H locs ls M hl hf
    refine lv_istore (lv' := [(5, .int t0_57), (0, .ref o), (1, .int v1_57), (2, .int v2_57)]) hx hb dX5_does_57 hl (by decide) rfl (fun ls hl => ?_)
    refine lv_iload hx hb dX5_does_59 (lv_at hl 0 rfl) ?_
    obtain ⟨hft, hff⟩ := hf
    refine lv_if_ne (tgt := 240) hx hb dX5_does_61 (by decide) (fun c1 => ?_) (fun c1 => ?_)
    · have hf := hft c1
      exact B240 v1_57 t0_57 σ57 _ _ _ M (lv_sub hl [1, 2, 0] rfl) hf
    · have hf := hff c1
      refine lv_aload_n hx hb dX5_does_64 rfl (lv_at hl 1 rfl) ?_
      refine lv_iload_n hx hb dX5_does_65 rfl (lv_at hl 3 rfl) ?_
      refine hm_cv C M hl.1 (As := [.int v2_57]) (rest := []) (hk_dies l D dA o b hB v2_57 σ57 hf) (n := 1) q2397 q2399 qs81 q140 q2400 (by decide +kernel) rfl ⟨Nat.le_of_ble_eq_true rfl, Nat.le_of_ble_eq_true rfl⟩ rfl (Nat.le_of_ble_eq_true rfl) dX5_does_66 (fun σ_66 H locs hf M => ?_)
      refine lv_goto (tgt := 240) hx hb dX5_does_69 (by decide) ?_
      exact B240 v1_57 t0_57 σ_66 _ _ _ M (lv_sub hl [1, 2, 0] rfl) hf
  refine lv_iconst (v := 0) hx hb dX5_does_0 rfl ?_
  refine lv_istore (lv' := [(5, .int 0), (0, .ref o), (1, .int a1), (2, .int a2), (3, .int a3), (4, .int a4)]) hx hb dX5_does_1 hl (by decide) rfl (fun ls hl => ?_)
  refine lv_iload_n hx hb dX5_does_3 rfl (lv_at hl 2 rfl) ?_
  obtain ⟨hf0, hf1, hf2, hf3, hf4, hf5, hf6⟩ := hf
  by_cases c0 : a1 = 0
  · have hf := hf0 c0
    refine hb_sw hx hb 0 c0 dX5_does_4 (by decide) (by decide) rfl (tgt := 44) (by decide) ?_
    refine lv_aload_n hx hb dX5_does_44 rfl (lv_at hl 1 rfl) ?_
    refine lv_iload_n hx hb dX5_does_45 rfl (lv_at hl 3 rfl) ?_
    refine hm_ci C M hl.1 (As := [.int a2]) (rest := []) (hk_isLiving l D dA o b hB a2 σ hf) (n := 1) q2341 q2343 qs71 q140 q2344 (by decide +kernel) rfl ⟨Nat.le_of_ble_eq_true rfl, Nat.le_of_ble_eq_true rfl⟩ rfl (Nat.le_of_ble_eq_true rfl) dX5_does_46 (fun r_46 σ_46 H locs hf M => ?_)
    obtain ⟨hft, hff⟩ := hf
    refine lv_if_eq (tgt := 56) hx hb dX5_does_49 (by decide) (fun c1 => ?_) (fun c1 => ?_)
    · have hf := hft c1
      refine lv_iconst (v := 1) hx hb dX5_does_56 rfl ?_
      exact B57 a1 a2 1 σ_46 _ _ _ M (lv_sub hl [1, 2, 3] rfl) hf
    · have hf := hff c1
      refine lv_iconst (v := 0) hx hb dX5_does_52 rfl ?_
      refine lv_goto (tgt := 57) hx hb dX5_does_53 (by decide) ?_
      exact B57 a1 a2 0 σ_46 _ _ _ M (lv_sub hl [1, 2, 3] rfl) hf
  by_cases c1 : a1 = 1
  · have hf := hf1 c1
    refine hb_sw hx hb 1 c1 dX5_does_4 (by decide) (by decide) rfl (tgt := 72) (by decide) ?_
    refine lv_aload_n hx hb dX5_does_72 rfl (lv_at hl 1 rfl) ?_
    refine lv_iload_n hx hb dX5_does_73 rfl (lv_at hl 3 rfl) ?_
    refine lv_iload_n hx hb dX5_does_74 rfl (lv_at hl 4 rfl) ?_
    refine hm_ci C M hl.1 (As := [.int a2, .int a3]) (rest := []) (hk_whyWed l D dA o b hB a2 a3 σ hf) (n := 2) q2440 q2442 qs90 q140 q2443 (by decide +kernel) rfl ⟨Nat.le_of_ble_eq_true rfl, Nat.le_of_ble_eq_true rfl⟩ rfl (Nat.le_of_ble_eq_true rfl) dX5_does_75 (fun r_75 σ_75 H locs hf M => ?_)
    refine lv_istore (lv' := [(5, .int r_75), (0, .ref o), (1, .int a1), (2, .int a2), (3, .int a3), (4, .int a4)]) hx hb dX5_does_78 hl (by decide) rfl (fun ls hl => ?_)
    refine lv_iload hx hb dX5_does_80 (lv_at hl 0 rfl) ?_
    obtain ⟨hft, hff⟩ := hf
    refine lv_if_ne (tgt := 240) hx hb dX5_does_82 (by decide) (fun c1 => ?_) (fun c1 => ?_)
    · have hf := hft c1
      exact B240 a1 r_75 σ_75 _ _ _ M (lv_sub hl [1, 2, 0] rfl) hf
    · have hf := hff c1
      refine lv_aload_n hx hb dX5_does_85 rfl (lv_at hl 1 rfl) ?_
      refine lv_iload_n hx hb dX5_does_86 rfl (lv_at hl 3 rfl) ?_
      refine lv_iload_n hx hb dX5_does_87 rfl (lv_at hl 4 rfl) ?_
      refine hm_cv C M hl.1 (As := [.int a2, .int a3]) (rest := []) (hk_weds l D dA o b hB a2 a3 σ_75 hf) (n := 2) q2444 q2446 qs91 q140 q2447 (by decide +kernel) rfl ⟨Nat.le_of_ble_eq_true rfl, Nat.le_of_ble_eq_true rfl⟩ rfl (Nat.le_of_ble_eq_true rfl) dX5_does_88 (fun σ_88 H locs hf M => ?_)
      refine lv_goto (tgt := 240) hx hb dX5_does_91 (by decide) ?_
      exact B240 a1 r_75 σ_88 _ _ _ M (lv_sub hl [1, 2, 0] rfl) hf
  by_cases c2 : a1 = 2
  · have hf := hf2 c2
    refine hb_sw hx hb 2 c2 dX5_does_4 (by decide) (by decide) rfl (tgt := 94) (by decide) ?_
    refine lv_aload_n hx hb dX5_does_94 rfl (lv_at hl 1 rfl) ?_
    refine hm_get C M 6 (by decide) q2073 (v := .ref (b 6)) rfl dX5_does_95 ?_
    refine lv_bipush (v := 117) hx hb dX5_does_98 rfl ?_
    refine lv_iload_n hx hb dX5_does_100 rfl (lv_at hl 3 rfl) ?_
    refine lv_iadd hx hb dX5_does_101 ?_
    obtain ⟨g1, hf⟩ := hf
    refine hm_ald6 C M g1 dX5_does_102 ?_
    obtain ⟨hft, hff⟩ := hf
    refine lv_if_ne (tgt := 110) hx hb dX5_does_103 (by decide) (fun c1 => ?_) (fun c1 => ?_)
    · have hf := hft c1
      refine lv_iconst (v := 0) hx hb dX5_does_110 rfl ?_
      exact B111 a1 a2 0 σ _ _ _ M (lv_sub hl [1, 2, 3] rfl) hf
    · have hf := hff c1
      refine lv_iconst (v := 1) hx hb dX5_does_106 rfl ?_
      refine lv_goto (tgt := 111) hx hb dX5_does_107 (by decide) ?_
      exact B111 a1 a2 1 σ _ _ _ M (lv_sub hl [1, 2, 3] rfl) hf
  by_cases c3 : a1 = 3
  · have hf := hf3 c3
    refine hb_sw hx hb 3 c3 dX5_does_4 (by decide) (by decide) rfl (tgt := 126) (by decide) ?_
    refine lv_aload_n hx hb dX5_does_126 rfl (lv_at hl 1 rfl) ?_
    refine lv_iload_n hx hb dX5_does_127 rfl (lv_at hl 3 rfl) ?_
    refine lv_iload_n hx hb dX5_does_128 rfl (lv_at hl 4 rfl) ?_
    refine lv_iload hx hb dX5_does_129 (lv_at hl 5 rfl) ?_
    refine hm_ci C M hl.1 (As := [.int a2, .int a3, .int a4]) (rest := []) (hk_whyGive l D dA o b hB a2 a3 a4 σ hf) (n := 3) q2456 q2458 qs92 q140 q2459 (by decide +kernel) rfl ⟨Nat.le_of_ble_eq_true rfl, Nat.le_of_ble_eq_true rfl⟩ rfl (Nat.le_of_ble_eq_true rfl) dX5_does_131 (fun r_131 σ_131 H locs hf M => ?_)
    refine lv_istore (lv' := [(5, .int r_131), (0, .ref o), (1, .int a1), (2, .int a2), (3, .int a3), (4, .int a4)]) hx hb dX5_does_134 hl (by decide) rfl (fun ls hl => ?_)
    refine lv_iload hx hb dX5_does_136 (lv_at hl 0 rfl) ?_
    obtain ⟨hft, hff⟩ := hf
    refine lv_if_ne (tgt := 240) hx hb dX5_does_138 (by decide) (fun c1 => ?_) (fun c1 => ?_)
    · have hf := hft c1
      exact B240 a1 r_131 σ_131 _ _ _ M (lv_sub hl [1, 2, 0] rfl) hf
    · have hf := hff c1
      refine lv_aload_n hx hb dX5_does_141 rfl (lv_at hl 1 rfl) ?_
      refine lv_iload_n hx hb dX5_does_142 rfl (lv_at hl 3 rfl) ?_
      refine lv_iload_n hx hb dX5_does_143 rfl (lv_at hl 4 rfl) ?_
      refine lv_iload hx hb dX5_does_144 (lv_at hl 5 rfl) ?_
      refine hm_cv C M hl.1 (As := [.int a2, .int a3, .int a4]) (rest := []) (hk_gives l D dA o b hB a2 a3 a4 σ_131 hf) (n := 3) q2460 q2462 qs93 q140 q2463 (by decide +kernel) rfl ⟨Nat.le_of_ble_eq_true rfl, Nat.le_of_ble_eq_true rfl⟩ rfl (Nat.le_of_ble_eq_true rfl) dX5_does_146 (fun σ_146 H locs hf M => ?_)
      refine lv_goto (tgt := 240) hx hb dX5_does_149 (by decide) ?_
      exact B240 a1 r_131 σ_146 _ _ _ M (lv_sub hl [1, 2, 0] rfl) hf
  by_cases c4 : a1 = 4
  · have hf := hf4 c4
    refine hb_sw hx hb 4 c4 dX5_does_4 (by decide) (by decide) rfl (tgt := 152) (by decide) ?_
    refine lv_aload_n hx hb dX5_does_152 rfl (lv_at hl 1 rfl) ?_
    refine lv_iload_n hx hb dX5_does_153 rfl (lv_at hl 3 rfl) ?_
    refine lv_iload_n hx hb dX5_does_154 rfl (lv_at hl 4 rfl) ?_
    refine hm_ci C M hl.1 (As := [.int a2, .int a3]) (rest := []) (hk_whyLeave l D dA o b hB a2 a3 σ hf) (n := 2) q2468 q2470 qs94 q140 q2471 (by decide +kernel) rfl ⟨Nat.le_of_ble_eq_true rfl, Nat.le_of_ble_eq_true rfl⟩ rfl (Nat.le_of_ble_eq_true rfl) dX5_does_155 (fun r_155 σ_155 H locs hf M => ?_)
    refine lv_istore (lv' := [(5, .int r_155), (0, .ref o), (1, .int a1), (2, .int a2), (3, .int a3), (4, .int a4)]) hx hb dX5_does_158 hl (by decide) rfl (fun ls hl => ?_)
    refine lv_iload hx hb dX5_does_160 (lv_at hl 0 rfl) ?_
    obtain ⟨hft, hff⟩ := hf
    refine lv_if_ne (tgt := 240) hx hb dX5_does_162 (by decide) (fun c1 => ?_) (fun c1 => ?_)
    · have hf := hft c1
      exact B240 a1 r_155 σ_155 _ _ _ M (lv_sub hl [1, 2, 0] rfl) hf
    · have hf := hff c1
      refine lv_aload_n hx hb dX5_does_165 rfl (lv_at hl 1 rfl) ?_
      refine lv_iload_n hx hb dX5_does_166 rfl (lv_at hl 3 rfl) ?_
      refine lv_iload_n hx hb dX5_does_167 rfl (lv_at hl 4 rfl) ?_
      refine lv_iload hx hb dX5_does_168 (lv_at hl 5 rfl) ?_
      refine hm_cv C M hl.1 (As := [.int a2, .int a3, .int a4]) (rest := []) (hk_leaves l D dA o b hB a2 a3 a4 σ_155 hf) (n := 3) q2472 q2474 qs95 q140 q2475 (by decide +kernel) rfl ⟨Nat.le_of_ble_eq_true rfl, Nat.le_of_ble_eq_true rfl⟩ rfl (Nat.le_of_ble_eq_true rfl) dX5_does_170 (fun σ_170 H locs hf M => ?_)
      refine lv_goto (tgt := 240) hx hb dX5_does_173 (by decide) ?_
      exact B240 a1 r_155 σ_170 _ _ _ M (lv_sub hl [1, 2, 0] rfl) hf
  by_cases c5 : a1 = 5
  · have hf := hf5 c5
    refine hb_sw hx hb 5 c5 dX5_does_4 (by decide) (by decide) rfl (tgt := 176) (by decide) ?_
    refine lv_aload_n hx hb dX5_does_176 rfl (lv_at hl 1 rfl) ?_
    refine lv_sipush (v := 129) hx hb dX5_does_177 rfl ?_
    refine lv_iload_n hx hb dX5_does_180 rfl (lv_at hl 3 rfl) ?_
    refine hm_ci C M hl.1 (As := [.int 129, .int a2]) (rest := []) (hk_ofPerson l D dA o b hB 129 a2 σ hf) (n := 2) q2361 q2363 qs76 q140 q2364 (by decide +kernel) rfl ⟨Nat.le_of_ble_eq_true rfl, Nat.le_of_ble_eq_true rfl⟩ rfl (Nat.le_of_ble_eq_true rfl) dX5_does_181 (fun r_181 σ_181 H locs hf M => ?_)
    obtain ⟨hft, hff⟩ := hf
    refine lv_if_ne (tgt := 191) hx hb dX5_does_184 (by decide) (fun c1 => ?_) (fun c1 => ?_)
    · have hf := hft c1
      refine lv_iconst (v := 0) hx hb dX5_does_191 rfl ?_
      exact B192 a1 a2 0 σ_181 _ _ _ M (lv_sub hl [1, 2, 3] rfl) hf
    · have hf := hff c1
      refine lv_iconst (v := 1) hx hb dX5_does_187 rfl ?_
      refine lv_goto (tgt := 192) hx hb dX5_does_188 (by decide) ?_
      exact B192 a1 a2 1 σ_181 _ _ _ M (lv_sub hl [1, 2, 3] rfl) hf
  have hf := hf6 c0 c1 c2 c3 c4 c5
  refine lv_tableOut (tgt := 207) hx hb dX5_does_4 (hb_swo (fun j j1 j2 => by
    have j3 : j = 0 ∨ j = 1 ∨ j = 2 ∨ j = 3 ∨ j = 4 ∨ j = 5 := by omega
    rcases j3 with rfl | rfl | rfl | rfl | rfl | rfl
    · exact c0
    · exact c1
    · exact c2
    · exact c3
    · exact c4
    · exact c5
    )) (by decide) ?_
  refine lv_aload_n hx hb dX5_does_207 rfl (lv_at hl 1 rfl) ?_
  refine hm_get C M 6 (by decide) q2073 (v := .ref (b 6)) rfl dX5_does_208 ?_
  refine lv_bipush (v := 100) hx hb dX5_does_211 rfl ?_
  obtain ⟨g1, hf⟩ := hf
  refine hm_ald6 C M g1 dX5_does_213 ?_
  refine lv_iload_n hx hb dX5_does_214 rfl (lv_at hl 3 rfl) ?_
  refine lv_iadd hx hb dX5_does_215 ?_
  refine lv_sipush (v := 199) hx hb dX5_does_216 rfl ?_
  obtain ⟨hft, hff⟩ := hf
  refine lv_icmp_le (tgt := 226) hx hb dX5_does_219 (by decide) (fun c1 => ?_) (fun c1 => ?_)
  · have hf := hft c1
    refine lv_iconst (v := 0) hx hb dX5_does_226 rfl ?_
    exact B227 a1 a2 0 σ _ _ _ M (lv_sub hl [1, 2, 3] rfl) hf
  · have hf := hff c1
    refine lv_iconst (v := 1) hx hb dX5_does_222 rfl ?_
    refine lv_goto (tgt := 227) hx hb dX5_does_223 (by decide) ?_
    exact B227 a1 a2 1 σ _ _ _ M (lv_sub hl [1, 2, 3] rfl) hf
def hw_book_b286 (v1_286 : Int32) (v2_286 : Int32) (σ286 : hm_S) (Q : Int32 → hm_S → Prop) : Prop := (¬ v1_286 = 0 → Q v2_286 σ286) ∧ (v1_286 = 0 → hw_back  σ286 (fun σ_291 => (Q v2_286 σ_291)))
def hw_book_b252 : Nat → Int32 → Int32 → Int32 → hm_S → (Int32 → hm_S → Prop) → Prop
  | 0, _, _, _, _, _ => False
  | n252 + 1, v1_252, v2_252, v3_252, σ252, Q => (65 ≤ v3_252 → hw_book_b286  v1_252 v2_252 σ252 Q) ∧ (¬ 65 ≤ v3_252 → vp_in v3_252 65 ∧ (vp_in ((65 * ((hm_gI σ252 26) - 1)) + v3_252) 520 ∧ (hw_book_b252  n252 v1_252 v2_252 (v3_252 + 1) (hm_sA σ252 24 ((65 * ((hm_gI σ252 26) - 1)) + v3_252) (hm_gA σ252 25 v3_252)) Q)))
def hw_book_b201 (v1_201 : Int32) (v2_201 : Int32) (σ201 : hm_S) (Q : Int32 → hm_S → Prop) : Prop := vp_in 100 346 ∧ (vp_in 2 4 ∧ (vp_in 102 346 ∧ (vp_in 3 4 ∧ ((¬ v1_201 = 1 → hw_book_b286  v1_201 v2_201 (hm_sI (hm_sA (hm_sA σ201 40 2 (hm_gA σ201 6 100)) 40 3 (hm_gA (hm_sA σ201 40 2 (hm_gA σ201 6 100)) 6 102)) 41 1) Q) ∧ (v1_201 = 1 → vp_in 1 4 ∧ (((hm_gA (hm_sI (hm_sA (hm_sA σ201 40 2 (hm_gA σ201 6 100)) 40 3 (hm_gA (hm_sA σ201 40 2 (hm_gA σ201 6 100)) 6 102)) 41 1) 40 1) ≤ 0 → hw_book_b286  v1_201 v2_201 (hm_sI (hm_sA (hm_sA σ201 40 2 (hm_gA σ201 6 100)) 40 3 (hm_gA (hm_sA σ201 40 2 (hm_gA σ201 6 100)) 6 102)) 41 1) Q) ∧ (¬ (hm_gA (hm_sI (hm_sA (hm_sA σ201 40 2 (hm_gA σ201 6 100)) 40 3 (hm_gA (hm_sA σ201 40 2 (hm_gA σ201 6 100)) 6 102)) 41 1) 40 1) ≤ 0 → hw_stores  (hm_sI (hm_sA (hm_sA σ201 40 2 (hm_gA σ201 6 100)) 40 3 (hm_gA (hm_sA σ201 40 2 (hm_gA σ201 6 100)) 6 102)) 41 1) (fun σ_247 => (∃ n, hw_book_b252  n v1_201 v2_201 0 σ_247 Q)))))))))
def hw_book_b111 : Nat → Int32 → Int32 → Int32 → hm_S → (Int32 → hm_S → Prop) → Prop
  | 0, _, _, _, _, _ => False
  | n111 + 1, v1_111, v2_111, v3_111, σ111, Q => ((hm_gI σ111 39) ≤ v3_111 → hw_book_b201  v1_111 v2_111 σ111 Q) ∧ (¬ (hm_gI σ111 39) ≤ v3_111 → (0 ≤ v2_111 → hw_book_b201  v1_111 v2_111 σ111 Q) ∧ (¬ 0 ≤ v2_111 → vp_in (4 * v3_111) 160 ∧ (vp_in ((4 * v3_111) + 1) 160 ∧ (vp_in ((4 * v3_111) + 2) 160 ∧ (vp_in ((4 * v3_111) + 3) 160 ∧ (hw_does (hm_gA σ111 8 (4 * v3_111)) (hm_gA σ111 8 ((4 * v3_111) + 1)) (hm_gA σ111 8 ((4 * v3_111) + 2)) (hm_gA σ111 8 ((4 * v3_111) + 3)) σ111 (fun r_167 σ_167 => (vp_in 0 4 ∧ (vp_in 0 4 ∧ (((hm_gA (hm_sA σ_167 40 0 r_167) 40 0) ≤ 0 → vp_in 1 4 ∧ (vp_in 1 4 ∧ (hw_book_b111  n111 v1_111 v2_111 (v3_111 + 1) (hm_sA (hm_sA σ_167 40 0 r_167) 40 1 ((hm_gA (hm_sA σ_167 40 0 r_167) 40 1) + 1)) Q))) ∧ (¬ (hm_gA (hm_sA σ_167 40 0 r_167) 40 0) ≤ 0 → hw_book_b111  n111 v1_111 v3_111 (v3_111 + 1) (hm_sA σ_167 40 0 r_167) Q)))))))))))
def hw_book_b89 : Nat → Int32 → Int32 → hm_S → (Int32 → hm_S → Prop) → Prop
  | 0, _, _, _, _ => False
  | n89 + 1, v1_89, v2_89, σ89, Q => (4 ≤ v2_89 → ∃ n, hw_book_b111  n v1_89 (-1) 0 σ89 Q) ∧ (¬ 4 ≤ v2_89 → vp_in v2_89 4 ∧ (hw_book_b89  n89 v1_89 (v2_89 + 1) (hm_sA σ89 40 v2_89 0) Q))
def hw_book_b39 : Nat → Int32 → hm_S → (Int32 → hm_S → Prop) → Prop
  | 0, _, _, _ => False
  | n39 + 1, v1_39, σ39, Q => ((hm_gI σ39 11) = 0 → hw_tries  σ39 (fun σ_84 => (∃ n, hw_book_b89  n v1_39 0 σ_84 Q))) ∧ (¬ (hm_gI σ39 11) = 0 → hw_bookLine  σ39 (fun r_47 σ_47 => ((r_47 = 0 → Q ((-2) - (hm_gI σ_47 16)) σ_47) ∧ (¬ r_47 = 0 → hw_sign 59 σ_47 (fun r_56 σ_56 => ((¬ r_56 = 0 → hw_book_b39  n39 v1_39 (hm_sI σ_56 39 ((hm_gI σ_56 39) + 1)) Q) ∧ (r_56 = 0 → Q ((-2) - (hm_gI σ_56 16)) σ_56)))))))
def hw_book (a1 : Int32) (σ : hm_S) (Q : Int32 → hm_S → Prop) : Prop := hw_isIn a1 0 1 (hm_sI σ 0 0) (fun r_8 σ_8 => ((¬ r_8 = 0 → hw_taken 400 σ_8 (fun σ_22 => (hw_next  (hm_sI (hm_sI σ_22 15 0) 39 0) (fun σ_36 => (∃ n, hw_book_b39  n a1 σ_36 Q))))) ∧ (r_8 = 0 → Q (-1000) σ_8)))
set_option maxHeartbeats 4000000 in
set_option maxRecDepth 100000 in
theorem hk_book (l : Launch) (D : va_G) (dA : Nat → ClassId) (o : Nat) (b : Nat → Nat) (hB : hm_D dA o b) (a1 : Int32) (σ : hm_S) {Q : Int32 → hm_S → Prop} (hf : hw_book a1 σ Q) : Met l yX5_book (ws_ yX5_book cX5_book 4 (some .int)) (hb_R 10 232) (va_Pc [.ref o, .int a1] (hm_U D dA o b σ)) (va_Qi Q (hm_U D dA o b) (hm_A o b)) 0 0 (hm_A o b) := by
  refine hm_Mi hB (LV := [(0, .ref o), (1, .int a1)]) (by decide) rfl (Nat.le_of_ble_eq_true rfl) (fun p e s m args below meth c ls QQ C M hl hret => ?_)
  have hx := C.1.1
  have hb := C.1.2.1
  have B286 : ∀ (v1_286 : Int32) (v2_286 : Int32) (σ286 : hm_S) (H : Heap) (locs : List Loc) (ls : Array Slot), hm_M D dA o b s.heap σ286 H locs → lv_has ls 4 [(0, .ref o), (1, .int v1_286), (2, .int v2_286)] → hw_book_b286  v1_286 v2_286 σ286 Q → W p l e (hb_R 10 232) s m args below meth c H locs 0 0 QQ (F0 m 286 ls []) := by
    intro v1_286 v2_286 σ286 H locs ls M hl hf
    refine lv_iload_n hx hb dX5_book_286 rfl (lv_at hl 1 rfl) ?_
    obtain ⟨hft, hff⟩ := hf
    refine lv_if_ne (tgt := 294) hx hb dX5_book_287 (by decide) (fun c1 => ?_) (fun c1 => ?_)
    · have hf := hft c1
      refine lv_iload_n hx hb dX5_book_294 rfl (lv_at hl 2 rfl) ?_
      exact hret _ _ _ _ _ _ dX5_book_295 M hf
    · have hf := hff c1
      refine lv_aload_n hx hb dX5_book_290 rfl (lv_at hl 0 rfl) ?_
      refine hm_cv C M hl.1 (As := []) (rest := []) (hk_back l D dA o b hB  σ286 hf) (n := 0) q2508 q2510 qs100 q140 q2511 (by decide +kernel) rfl ⟨Nat.le_of_ble_eq_true rfl, Nat.le_of_ble_eq_true rfl⟩ rfl (Nat.le_of_ble_eq_true rfl) dX5_book_291 (fun σ_291 H locs hf M => ?_)
      refine lv_iload_n hx hb dX5_book_294 rfl (lv_at hl 2 rfl) ?_
      exact hret _ _ _ _ _ _ dX5_book_295 M hf
  have B252 : ∀ (n252 : Nat) (v1_252 : Int32) (v2_252 : Int32) (v3_252 : Int32) (σ252 : hm_S) (H : Heap) (locs : List Loc) (ls : Array Slot), hm_M D dA o b s.heap σ252 H locs → lv_has ls 4 [(0, .ref o), (1, .int v1_252), (2, .int v2_252), (3, .int v3_252)] → hw_book_b252  n252 v1_252 v2_252 v3_252 σ252 Q → W p l e (hb_R 10 232) s m args below meth c H locs 0 0 QQ (F0 m 252 ls []) := by
    intro n252
    induction n252 with
    | zero => intro v1_252 v2_252 v3_252 σ252 H locs ls M hl hf; exact hf.elim
    | succ n252 ih252 =>
      intro v1_252 v2_252 v3_252 σ252 H locs ls M hl hf
      refine lv_iload_n hx hb dX5_book_252 rfl (lv_at hl 3 rfl) ?_
      refine lv_bipush (v := 65) hx hb dX5_book_253 rfl ?_
      obtain ⟨hft, hff⟩ := hf
      refine lv_icmp_ge (tgt := 286) hx hb dX5_book_255 (by decide) (fun c1 => ?_) (fun c1 => ?_)
      · have hf := hft c1
        exact B286 v1_252 v2_252 σ252 _ _ _ M (lv_sub hl [0, 1, 2] rfl) hf
      · have hf := hff c1
        refine lv_aload_n hx hb dX5_book_258 rfl (lv_at hl 0 rfl) ?_
        refine hm_get C M 24 (by decide) q2091 (v := .ref (b 24)) rfl dX5_book_259 ?_
        refine lv_bipush (v := 65) hx hb dX5_book_262 rfl ?_
        refine lv_aload_n hx hb dX5_book_264 rfl (lv_at hl 0 rfl) ?_
        refine hm_get C M 26 (by decide) q2093 (v := .int (hm_gI σ252 26)) rfl dX5_book_265 ?_
        refine lv_iconst (v := 1) hx hb dX5_book_268 rfl ?_
        refine lv_isub hx hb dX5_book_269 ?_
        refine lv_imul hx hb dX5_book_270 ?_
        refine lv_iload_n hx hb dX5_book_271 rfl (lv_at hl 3 rfl) ?_
        refine lv_iadd hx hb dX5_book_272 ?_
        refine lv_aload_n hx hb dX5_book_273 rfl (lv_at hl 0 rfl) ?_
        refine hm_get C M 25 (by decide) q2092 (v := .ref (b 25)) rfl dX5_book_274 ?_
        refine lv_iload_n hx hb dX5_book_277 rfl (lv_at hl 3 rfl) ?_
        obtain ⟨g1, hf⟩ := hf
        refine hm_ald25 C M g1 dX5_book_278 ?_
        obtain ⟨g1, hf⟩ := hf
        refine hm_ast24 C M g1 dX5_book_279 (fun H locs M => ?_)
        refine lv_iinc (v := v3_252 + 1) (lv' := [(3, .int (v3_252 + 1)), (0, .ref o), (1, .int v1_252), (2, .int v2_252)]) hx hb dX5_book_280 hl (k := 3) rfl rfl (by decide) rfl (fun ls hl => ?_)
        refine lv_goto (tgt := 252) hx hb dX5_book_283 (by decide) ?_
        exact ih252 v1_252 v2_252 (v3_252 + 1) (hm_sA σ252 24 ((65 * ((hm_gI σ252 26) - 1)) + v3_252) (hm_gA σ252 25 v3_252)) _ _ _ M (lv_sub hl [1, 2, 3, 0] rfl) hf
  have B201 : ∀ (v1_201 : Int32) (v2_201 : Int32) (σ201 : hm_S) (H : Heap) (locs : List Loc) (ls : Array Slot), hm_M D dA o b s.heap σ201 H locs → lv_has ls 4 [(0, .ref o), (1, .int v1_201), (2, .int v2_201)] → hw_book_b201  v1_201 v2_201 σ201 Q → W p l e (hb_R 10 232) s m args below meth c H locs 0 0 QQ (F0 m 201 ls []) := by
    intro v1_201 v2_201 σ201 H locs ls M hl hf
    refine lv_aload_n hx hb dX5_book_201 rfl (lv_at hl 0 rfl) ?_
    refine hm_get C M 40 (by decide) q2107 (v := .ref (b 40)) rfl dX5_book_202 ?_
    refine lv_iconst (v := 2) hx hb dX5_book_205 rfl ?_
    refine lv_aload_n hx hb dX5_book_206 rfl (lv_at hl 0 rfl) ?_
    refine hm_get C M 6 (by decide) q2073 (v := .ref (b 6)) rfl dX5_book_207 ?_
    refine lv_bipush (v := 100) hx hb dX5_book_210 rfl ?_
    obtain ⟨g1, hf⟩ := hf
    refine hm_ald6 C M g1 dX5_book_212 ?_
    obtain ⟨g1, hf⟩ := hf
    refine hm_ast40 C M g1 dX5_book_213 (fun H locs M => ?_)
    refine lv_aload_n hx hb dX5_book_214 rfl (lv_at hl 0 rfl) ?_
    refine hm_get C M 40 (by decide) q2107 (v := .ref (b 40)) rfl dX5_book_215 ?_
    refine lv_iconst (v := 3) hx hb dX5_book_218 rfl ?_
    refine lv_aload_n hx hb dX5_book_219 rfl (lv_at hl 0 rfl) ?_
    refine hm_get C M 6 (by decide) q2073 (v := .ref (b 6)) rfl dX5_book_220 ?_
    refine lv_bipush (v := 102) hx hb dX5_book_223 rfl ?_
    obtain ⟨g1, hf⟩ := hf
    refine hm_ald6 C M g1 dX5_book_225 ?_
    obtain ⟨g1, hf⟩ := hf
    refine hm_ast40 C M g1 dX5_book_226 (fun H locs M => ?_)
    refine lv_aload_n hx hb dX5_book_227 rfl (lv_at hl 0 rfl) ?_
    refine lv_iconst (v := 1) hx hb dX5_book_228 rfl ?_
    refine hm_put41 C M hb_B1 q2108 dX5_book_229 (fun H locs M => ?_)
    refine lv_iload_n hx hb dX5_book_232 rfl (lv_at hl 1 rfl) ?_
    refine lv_iconst (v := 1) hx hb dX5_book_233 rfl ?_
    obtain ⟨hft, hff⟩ := hf
    refine lv_icmp_ne (tgt := 286) hx hb dX5_book_234 (by decide) (fun c1 => ?_) (fun c1 => ?_)
    · have hf := hft c1
      exact B286 v1_201 v2_201 (hm_sI (hm_sA (hm_sA σ201 40 2 (hm_gA σ201 6 100)) 40 3 (hm_gA (hm_sA σ201 40 2 (hm_gA σ201 6 100)) 6 102)) 41 1) _ _ _ M (lv_sub hl [0, 1, 2] rfl) hf
    · have hf := hff c1
      refine lv_aload_n hx hb dX5_book_237 rfl (lv_at hl 0 rfl) ?_
      refine hm_get C M 40 (by decide) q2107 (v := .ref (b 40)) rfl dX5_book_238 ?_
      refine lv_iconst (v := 1) hx hb dX5_book_241 rfl ?_
      obtain ⟨g1, hf⟩ := hf
      refine hm_ald40 C M g1 dX5_book_242 ?_
      obtain ⟨hft, hff⟩ := hf
      refine lv_if_le (tgt := 286) hx hb dX5_book_243 (by decide) (fun c1 => ?_) (fun c1 => ?_)
      · have hf := hft c1
        exact B286 v1_201 v2_201 (hm_sI (hm_sA (hm_sA σ201 40 2 (hm_gA σ201 6 100)) 40 3 (hm_gA (hm_sA σ201 40 2 (hm_gA σ201 6 100)) 6 102)) 41 1) _ _ _ M (lv_sub hl [0, 1, 2] rfl) hf
      · have hf := hff c1
        refine lv_aload_n hx hb dX5_book_246 rfl (lv_at hl 0 rfl) ?_
        refine hm_cv C M hl.1 (As := []) (rest := []) (hk_stores l D dA o b hB  (hm_sI (hm_sA (hm_sA σ201 40 2 (hm_gA σ201 6 100)) 40 3 (hm_gA (hm_sA σ201 40 2 (hm_gA σ201 6 100)) 6 102)) 41 1) hf) (n := 0) q2393 q2395 qs80 q140 q2396 (by decide +kernel) rfl ⟨Nat.le_of_ble_eq_true rfl, Nat.le_of_ble_eq_true rfl⟩ rfl (Nat.le_of_ble_eq_true rfl) dX5_book_247 (fun σ_247 H locs hf M => ?_)
        refine lv_iconst (v := 0) hx hb dX5_book_250 rfl ?_
        refine lv_istore_n (lv' := [(3, .int 0), (0, .ref o), (1, .int v1_201), (2, .int v2_201)]) hx hb dX5_book_251 rfl hl (by decide) rfl (fun ls hl => ?_)
        obtain ⟨nn, hf⟩ := hf
        exact B252 nn v1_201 v2_201 0 σ_247 _ _ _ M (lv_sub hl [1, 2, 3, 0] rfl) hf
  have B111 : ∀ (n111 : Nat) (v1_111 : Int32) (v2_111 : Int32) (v3_111 : Int32) (σ111 : hm_S) (H : Heap) (locs : List Loc) (ls : Array Slot), hm_M D dA o b s.heap σ111 H locs → lv_has ls 4 [(0, .ref o), (1, .int v1_111), (2, .int v2_111), (3, .int v3_111)] → hw_book_b111  n111 v1_111 v2_111 v3_111 σ111 Q → W p l e (hb_R 10 232) s m args below meth c H locs 0 0 QQ (F0 m 111 ls []) := by
    intro n111
    induction n111 with
    | zero => intro v1_111 v2_111 v3_111 σ111 H locs ls M hl hf; exact hf.elim
    | succ n111 ih111 =>
      intro v1_111 v2_111 v3_111 σ111 H locs ls M hl hf
      refine lv_iload_n hx hb dX5_book_111 rfl (lv_at hl 3 rfl) ?_
      refine lv_aload_n hx hb dX5_book_112 rfl (lv_at hl 0 rfl) ?_
      refine hm_get C M 39 (by decide) q2106 (v := .int (hm_gI σ111 39)) rfl dX5_book_113 ?_
      obtain ⟨hft, hff⟩ := hf
      refine lv_icmp_ge (tgt := 201) hx hb dX5_book_116 (by decide) (fun c1 => ?_) (fun c1 => ?_)
      · have hf := hft c1
        exact B201 v1_111 v2_111 σ111 _ _ _ M (lv_sub hl [0, 1, 2] rfl) hf
      · have hf := hff c1
        refine lv_iload_n hx hb dX5_book_119 rfl (lv_at hl 2 rfl) ?_
        obtain ⟨hft, hff⟩ := hf
        refine lv_if_ge (tgt := 201) hx hb dX5_book_120 (by decide) (fun c1 => ?_) (fun c1 => ?_)
        · have hf := hft c1
          exact B201 v1_111 v2_111 σ111 _ _ _ M (lv_sub hl [0, 1, 2] rfl) hf
        · have hf := hff c1
          refine lv_aload_n hx hb dX5_book_123 rfl (lv_at hl 0 rfl) ?_
          refine hm_get C M 40 (by decide) q2107 (v := .ref (b 40)) rfl dX5_book_124 ?_
          refine lv_iconst (v := 0) hx hb dX5_book_127 rfl ?_
          refine lv_aload_n hx hb dX5_book_128 rfl (lv_at hl 0 rfl) ?_
          refine lv_aload_n hx hb dX5_book_129 rfl (lv_at hl 0 rfl) ?_
          refine hm_get C M 8 (by decide) q2075 (v := .ref (b 8)) rfl dX5_book_130 ?_
          refine lv_iconst (v := 4) hx hb dX5_book_133 rfl ?_
          refine lv_iload_n hx hb dX5_book_134 rfl (lv_at hl 3 rfl) ?_
          refine lv_imul hx hb dX5_book_135 ?_
          obtain ⟨g1, hf⟩ := hf
          refine hm_ald8 C M g1 dX5_book_136 ?_
          refine lv_aload_n hx hb dX5_book_137 rfl (lv_at hl 0 rfl) ?_
          refine hm_get C M 8 (by decide) q2075 (v := .ref (b 8)) rfl dX5_book_138 ?_
          refine lv_iconst (v := 4) hx hb dX5_book_141 rfl ?_
          refine lv_iload_n hx hb dX5_book_142 rfl (lv_at hl 3 rfl) ?_
          refine lv_imul hx hb dX5_book_143 ?_
          refine lv_iconst (v := 1) hx hb dX5_book_144 rfl ?_
          refine lv_iadd hx hb dX5_book_145 ?_
          obtain ⟨g1, hf⟩ := hf
          refine hm_ald8 C M g1 dX5_book_146 ?_
          refine lv_aload_n hx hb dX5_book_147 rfl (lv_at hl 0 rfl) ?_
          refine hm_get C M 8 (by decide) q2075 (v := .ref (b 8)) rfl dX5_book_148 ?_
          refine lv_iconst (v := 4) hx hb dX5_book_151 rfl ?_
          refine lv_iload_n hx hb dX5_book_152 rfl (lv_at hl 3 rfl) ?_
          refine lv_imul hx hb dX5_book_153 ?_
          refine lv_iconst (v := 2) hx hb dX5_book_154 rfl ?_
          refine lv_iadd hx hb dX5_book_155 ?_
          obtain ⟨g1, hf⟩ := hf
          refine hm_ald8 C M g1 dX5_book_156 ?_
          refine lv_aload_n hx hb dX5_book_157 rfl (lv_at hl 0 rfl) ?_
          refine hm_get C M 8 (by decide) q2075 (v := .ref (b 8)) rfl dX5_book_158 ?_
          refine lv_iconst (v := 4) hx hb dX5_book_161 rfl ?_
          refine lv_iload_n hx hb dX5_book_162 rfl (lv_at hl 3 rfl) ?_
          refine lv_imul hx hb dX5_book_163 ?_
          refine lv_iconst (v := 3) hx hb dX5_book_164 rfl ?_
          refine lv_iadd hx hb dX5_book_165 ?_
          obtain ⟨g1, hf⟩ := hf
          refine hm_ald8 C M g1 dX5_book_166 ?_
          refine hm_ci C M hl.1 (As := [.int (hm_gA σ111 8 (4 * v3_111)), .int (hm_gA σ111 8 ((4 * v3_111) + 1)), .int (hm_gA σ111 8 ((4 * v3_111) + 2)), .int (hm_gA σ111 8 ((4 * v3_111) + 3))]) (rest := [.int 0, .ref (b 40)]) (hk_does l D dA o b hB (hm_gA σ111 8 (4 * v3_111)) (hm_gA σ111 8 ((4 * v3_111) + 1)) (hm_gA σ111 8 ((4 * v3_111) + 2)) (hm_gA σ111 8 ((4 * v3_111) + 3)) σ111 hf) (n := 4) q2652 q2654 qs115 q140 q2655 (by decide +kernel) rfl ⟨Nat.le_of_ble_eq_true rfl, Nat.le_of_ble_eq_true rfl⟩ rfl (Nat.le_of_ble_eq_true rfl) dX5_book_167 (fun r_167 σ_167 H locs hf M => ?_)
          obtain ⟨g1, hf⟩ := hf
          refine hm_ast40 C M g1 dX5_book_170 (fun H locs M => ?_)
          refine lv_aload_n hx hb dX5_book_171 rfl (lv_at hl 0 rfl) ?_
          refine hm_get C M 40 (by decide) q2107 (v := .ref (b 40)) rfl dX5_book_172 ?_
          refine lv_iconst (v := 0) hx hb dX5_book_175 rfl ?_
          obtain ⟨g1, hf⟩ := hf
          refine hm_ald40 C M g1 dX5_book_176 ?_
          obtain ⟨hft, hff⟩ := hf
          refine lv_if_le (tgt := 185) hx hb dX5_book_177 (by decide) (fun c1 => ?_) (fun c1 => ?_)
          · have hf := hft c1
            refine lv_aload_n hx hb dX5_book_185 rfl (lv_at hl 0 rfl) ?_
            refine hm_get C M 40 (by decide) q2107 (v := .ref (b 40)) rfl dX5_book_186 ?_
            refine lv_iconst (v := 1) hx hb dX5_book_189 rfl ?_
            refine lv_dup2_11 hx hb dX5_book_190 rfl rfl ?_
            obtain ⟨g1, hf⟩ := hf
            refine hm_ald40 C M g1 dX5_book_191 ?_
            refine lv_iconst (v := 1) hx hb dX5_book_192 rfl ?_
            refine lv_iadd hx hb dX5_book_193 ?_
            obtain ⟨g1, hf⟩ := hf
            refine hm_ast40 C M g1 dX5_book_194 (fun H locs M => ?_)
            refine lv_iinc (v := v3_111 + 1) (lv' := [(3, .int (v3_111 + 1)), (0, .ref o), (1, .int v1_111), (2, .int v2_111)]) hx hb dX5_book_195 hl (k := 3) rfl rfl (by decide) rfl (fun ls hl => ?_)
            refine lv_goto (tgt := 111) hx hb dX5_book_198 (by decide) ?_
            exact ih111 v1_111 v2_111 (v3_111 + 1) (hm_sA (hm_sA σ_167 40 0 r_167) 40 1 ((hm_gA (hm_sA σ_167 40 0 r_167) 40 1) + 1)) _ _ _ M (lv_sub hl [1, 2, 3, 0] rfl) hf
          · have hf := hff c1
            refine lv_iload_n hx hb dX5_book_180 rfl (lv_at hl 3 rfl) ?_
            refine lv_istore_n (lv' := [(2, .int v3_111), (0, .ref o), (1, .int v1_111), (3, .int v3_111)]) hx hb dX5_book_181 rfl hl (by decide) rfl (fun ls hl => ?_)
            refine lv_goto (tgt := 195) hx hb dX5_book_182 (by decide) ?_
            refine lv_iinc (v := v3_111 + 1) (lv' := [(3, .int (v3_111 + 1)), (2, .int v3_111), (0, .ref o), (1, .int v1_111)]) hx hb dX5_book_195 hl (k := 3) rfl rfl (by decide) rfl (fun ls hl => ?_)
            refine lv_goto (tgt := 111) hx hb dX5_book_198 (by decide) ?_
            exact ih111 v1_111 v3_111 (v3_111 + 1) (hm_sA σ_167 40 0 r_167) _ _ _ M (lv_sub hl [2, 3, 1, 0] rfl) hf
  have B89 : ∀ (n89 : Nat) (v1_89 : Int32) (v2_89 : Int32) (σ89 : hm_S) (H : Heap) (locs : List Loc) (ls : Array Slot), hm_M D dA o b s.heap σ89 H locs → lv_has ls 4 [(0, .ref o), (1, .int v1_89), (2, .int v2_89)] → hw_book_b89  n89 v1_89 v2_89 σ89 Q → W p l e (hb_R 10 232) s m args below meth c H locs 0 0 QQ (F0 m 89 ls []) := by
    intro n89
    induction n89 with
    | zero => intro v1_89 v2_89 σ89 H locs ls M hl hf; exact hf.elim
    | succ n89 ih89 =>
      intro v1_89 v2_89 σ89 H locs ls M hl hf
      refine lv_iload_n hx hb dX5_book_89 rfl (lv_at hl 2 rfl) ?_
      refine lv_iconst (v := 4) hx hb dX5_book_90 rfl ?_
      obtain ⟨hft, hff⟩ := hf
      refine lv_icmp_ge (tgt := 107) hx hb dX5_book_91 (by decide) (fun c1 => ?_) (fun c1 => ?_)
      · have hf := hft c1
        refine lv_iconst (v := (-1)) hx hb dX5_book_107 rfl ?_
        refine lv_istore_n (lv' := [(2, .int (-1)), (0, .ref o), (1, .int v1_89)]) hx hb dX5_book_108 rfl hl (by decide) rfl (fun ls hl => ?_)
        refine lv_iconst (v := 0) hx hb dX5_book_109 rfl ?_
        refine lv_istore_n (lv' := [(3, .int 0), (2, .int (-1)), (0, .ref o), (1, .int v1_89)]) hx hb dX5_book_110 rfl hl (by decide) rfl (fun ls hl => ?_)
        obtain ⟨nn, hf⟩ := hf
        exact B111 nn v1_89 (-1) 0 σ89 _ _ _ M (lv_sub hl [2, 3, 1, 0] rfl) hf
      · have hf := hff c1
        refine lv_aload_n hx hb dX5_book_94 rfl (lv_at hl 0 rfl) ?_
        refine hm_get C M 40 (by decide) q2107 (v := .ref (b 40)) rfl dX5_book_95 ?_
        refine lv_iload_n hx hb dX5_book_98 rfl (lv_at hl 2 rfl) ?_
        refine lv_iconst (v := 0) hx hb dX5_book_99 rfl ?_
        obtain ⟨g1, hf⟩ := hf
        refine hm_ast40 C M g1 dX5_book_100 (fun H locs M => ?_)
        refine lv_iinc (v := v2_89 + 1) (lv' := [(2, .int (v2_89 + 1)), (0, .ref o), (1, .int v1_89)]) hx hb dX5_book_101 hl (k := 2) rfl rfl (by decide) rfl (fun ls hl => ?_)
        refine lv_goto (tgt := 89) hx hb dX5_book_104 (by decide) ?_
        exact ih89 v1_89 (v2_89 + 1) (hm_sA σ89 40 v2_89 0) _ _ _ M (lv_sub hl [1, 2, 0] rfl) hf
  have B39 : ∀ (n39 : Nat) (v1_39 : Int32) (σ39 : hm_S) (H : Heap) (locs : List Loc) (ls : Array Slot), hm_M D dA o b s.heap σ39 H locs → lv_has ls 4 [(0, .ref o), (1, .int v1_39)] → hw_book_b39  n39 v1_39 σ39 Q → W p l e (hb_R 10 232) s m args below meth c H locs 0 0 QQ (F0 m 39 ls []) := by
    intro n39
    induction n39 with
    | zero => intro v1_39 σ39 H locs ls M hl hf; exact hf.elim
    | succ n39 ih39 =>
      intro v1_39 σ39 H locs ls M hl hf
      refine lv_aload_n hx hb dX5_book_39 rfl (lv_at hl 0 rfl) ?_
      refine hm_get C M 11 (by decide) q2078 (v := .int (hm_gI σ39 11)) rfl dX5_book_40 ?_
      obtain ⟨hft, hff⟩ := hf
      refine lv_if_eq (tgt := 83) hx hb dX5_book_43 (by decide) (fun c1 => ?_) (fun c1 => ?_)
      · have hf := hft c1
        refine lv_aload_n hx hb dX5_book_83 rfl (lv_at hl 0 rfl) ?_
        refine hm_cv C M hl.1 (As := []) (rest := []) (hk_tries l D dA o b hB  σ39 hf) (n := 0) q2504 q2506 qs99 q140 q2507 (by decide +kernel) rfl ⟨Nat.le_of_ble_eq_true rfl, Nat.le_of_ble_eq_true rfl⟩ rfl (Nat.le_of_ble_eq_true rfl) dX5_book_84 (fun σ_84 H locs hf M => ?_)
        refine lv_iconst (v := 0) hx hb dX5_book_87 rfl ?_
        refine lv_istore_n (lv' := [(2, .int 0), (0, .ref o), (1, .int v1_39)]) hx hb dX5_book_88 rfl hl (by decide) rfl (fun ls hl => ?_)
        obtain ⟨nn, hf⟩ := hf
        exact B89 nn v1_39 0 σ_84 _ _ _ M (lv_sub hl [1, 2, 0] rfl) hf
      · have hf := hff c1
        refine lv_aload_n hx hb dX5_book_46 rfl (lv_at hl 0 rfl) ?_
        refine hm_ci C M hl.1 (As := []) (rest := []) (hk_bookLine l D dA o b hB  σ39 hf) (n := 0) q2648 q2650 qs114 q140 q2651 (by decide +kernel) rfl ⟨Nat.le_of_ble_eq_true rfl, Nat.le_of_ble_eq_true rfl⟩ rfl (Nat.le_of_ble_eq_true rfl) dX5_book_47 (fun r_47 σ_47 H locs hf M => ?_)
        obtain ⟨hft, hff⟩ := hf
        refine lv_if_eq (tgt := 62) hx hb dX5_book_50 (by decide) (fun c1 => ?_) (fun c1 => ?_)
        · have hf := hft c1
          refine lv_bipush (v := (-2)) hx hb dX5_book_62 rfl ?_
          refine lv_aload_n hx hb dX5_book_64 rfl (lv_at hl 0 rfl) ?_
          refine hm_get C M 16 (by decide) q2083 (v := .int (hm_gI σ_47 16)) rfl dX5_book_65 ?_
          refine lv_isub hx hb dX5_book_68 ?_
          exact hret _ _ _ _ _ _ dX5_book_69 M hf
        · have hf := hff c1
          refine lv_aload_n hx hb dX5_book_53 rfl (lv_at hl 0 rfl) ?_
          refine lv_bipush (v := 59) hx hb dX5_book_54 rfl ?_
          refine hm_ci C M hl.1 (As := [.int 59]) (rest := []) (hk_sign l D dA o b hB 59 σ_47 hf) (n := 1) q2317 q2319 qs67 q140 q2320 (by decide +kernel) rfl ⟨Nat.le_of_ble_eq_true rfl, Nat.le_of_ble_eq_true rfl⟩ rfl (Nat.le_of_ble_eq_true rfl) dX5_book_56 (fun r_56 σ_56 H locs hf M => ?_)
          obtain ⟨hft, hff⟩ := hf
          refine lv_if_ne (tgt := 70) hx hb dX5_book_59 (by decide) (fun c1 => ?_) (fun c1 => ?_)
          · have hf := hft c1
            refine lv_aload_n hx hb dX5_book_70 rfl (lv_at hl 0 rfl) ?_
            refine lv_dup hx hb dX5_book_71 rfl ?_
            refine hm_get C M 39 (by decide) q2106 (v := .int (hm_gI σ_56 39)) rfl dX5_book_72 ?_
            refine lv_iconst (v := 1) hx hb dX5_book_75 rfl ?_
            refine lv_iadd hx hb dX5_book_76 ?_
            refine hm_put39 C M q2106 dX5_book_77 (fun H locs M => ?_)
            refine lv_goto (tgt := 39) hx hb dX5_book_80 (by decide) ?_
            exact ih39 v1_39 (hm_sI σ_56 39 ((hm_gI σ_56 39) + 1)) _ _ _ M (lv_sub hl [0, 1] rfl) hf
          · have hf := hff c1
            refine lv_bipush (v := (-2)) hx hb dX5_book_62 rfl ?_
            refine lv_aload_n hx hb dX5_book_64 rfl (lv_at hl 0 rfl) ?_
            refine hm_get C M 16 (by decide) q2083 (v := .int (hm_gI σ_56 16)) rfl dX5_book_65 ?_
            refine lv_isub hx hb dX5_book_68 ?_
            exact hret _ _ _ _ _ _ dX5_book_69 M hf
  refine lv_aload_n hx hb dX5_book_0 rfl (lv_at hl 0 rfl) ?_
  refine lv_iconst (v := 0) hx hb dX5_book_1 rfl ?_
  refine hm_put0 C M q2067 dX5_book_2 (fun H locs M => ?_)
  refine lv_iload_n hx hb dX5_book_5 rfl (lv_at hl 1 rfl) ?_
  refine lv_iconst (v := 0) hx hb dX5_book_6 rfl ?_
  refine lv_iconst (v := 1) hx hb dX5_book_7 rfl ?_
  refine hm_csi C M hl.1 (As := [.int a1, .int 0, .int 1]) (rest := []) (hk_isIn l D dA o b hB a1 0 1 (hm_sI σ 0 0) hf) (n := 3) q2280 q2281 q140 q2282 (by decide +kernel) rfl ⟨Nat.le_of_ble_eq_true rfl, Nat.le_of_ble_eq_true rfl⟩ rfl (Nat.le_of_ble_eq_true rfl) dX5_book_8 (fun r_8 σ_8 H locs hf M => ?_)
  obtain ⟨hft, hff⟩ := hf
  refine lv_if_ne (tgt := 18) hx hb dX5_book_11 (by decide) (fun c1 => ?_) (fun c1 => ?_)
  · have hf := hft c1
    refine lv_aload_n hx hb dX5_book_18 rfl (lv_at hl 0 rfl) ?_
    refine lv_sipush (v := 400) hx hb dX5_book_19 rfl ?_
    refine hm_cv C M hl.1 (As := [.int 400]) (rest := []) (hk_taken l D dA o b hB 400 σ_8 hf) (n := 1) q2230 q2232 qs49 q140 q2233 (by decide +kernel) rfl ⟨Nat.le_of_ble_eq_true rfl, Nat.le_of_ble_eq_true rfl⟩ rfl (Nat.le_of_ble_eq_true rfl) dX5_book_22 (fun σ_22 H locs hf M => ?_)
    refine lv_aload_n hx hb dX5_book_25 rfl (lv_at hl 0 rfl) ?_
    refine lv_iconst (v := 0) hx hb dX5_book_26 rfl ?_
    refine hm_put15 C M q2082 dX5_book_27 (fun H locs M => ?_)
    refine lv_aload_n hx hb dX5_book_30 rfl (lv_at hl 0 rfl) ?_
    refine lv_iconst (v := 0) hx hb dX5_book_31 rfl ?_
    refine hm_put39 C M q2106 dX5_book_32 (fun H locs M => ?_)
    refine lv_aload_n hx hb dX5_book_35 rfl (lv_at hl 0 rfl) ?_
    refine hm_cv C M hl.1 (As := []) (rest := []) (hk_next l D dA o b hB  (hm_sI (hm_sI σ_22 15 0) 39 0) hf) (n := 0) q2234 q2236 qs50 q140 q2237 (by decide +kernel) rfl ⟨Nat.le_of_ble_eq_true rfl, Nat.le_of_ble_eq_true rfl⟩ rfl (Nat.le_of_ble_eq_true rfl) dX5_book_36 (fun σ_36 H locs hf M => ?_)
    obtain ⟨nn, hf⟩ := hf
    exact B39 nn a1 σ_36 _ _ _ M (lv_sub hl [0, 1] rfl) hf
  · have hf := hff c1
    refine lv_sipush (v := (-1000)) hx hb dX5_book_14 rfl ?_
    exact hret _ _ _ _ _ _ dX5_book_17 M hf
def hw_told (a1 : Int32) (σ : hm_S) (Q : Int32 → hm_S → Prop) : Prop := ((hm_gI (hm_sI σ 0 0) 41) = 0 → Q (-1) (hm_sI σ 0 0)) ∧ (¬ (hm_gI (hm_sI σ 0 0) 41) = 0 → hw_isIn a1 0 3 (hm_sI σ 0 0) (fun r_15 σ_15 => ((r_15 = 0 → Q (-1) σ_15) ∧ (¬ r_15 = 0 → vp_in a1 4 ∧ (Q (hm_gA σ_15 40 a1) σ_15)))))
set_option maxHeartbeats 4000000 in
set_option maxRecDepth 100000 in
theorem hk_told (l : Launch) (D : va_G) (dA : Nat → ClassId) (o : Nat) (b : Nat → Nat) (hB : hm_D dA o b) (a1 : Int32) (σ : hm_S) {Q : Int32 → hm_S → Prop} (hf : hw_told a1 σ Q) : Met l yX5_told (ws_ yX5_told cX5_told 2 (some .int)) (hb_R 1 22) (va_Pc [.ref o, .int a1] (hm_U D dA o b σ)) (va_Qi Q (hm_U D dA o b) (hm_A o b)) 0 0 (hm_A o b) := by
  refine hm_Mi hB (LV := [(0, .ref o), (1, .int a1)]) (by decide) rfl (Nat.le_of_ble_eq_true rfl) (fun p e s m args below meth c ls QQ C M hl hret => ?_)
  have hx := C.1.1
  have hb := C.1.2.1
  refine lv_aload_n hx hb dX5_told_0 rfl (lv_at hl 0 rfl) ?_
  refine lv_iconst (v := 0) hx hb dX5_told_1 rfl ?_
  refine hm_put0 C M q2067 dX5_told_2 (fun H locs M => ?_)
  refine lv_aload_n hx hb dX5_told_5 rfl (lv_at hl 0 rfl) ?_
  refine hm_get C M 41 (by decide) q2108 (v := .int (hm_gI (hm_sI σ 0 0) 41)) rfl dX5_told_6 ?_
  obtain ⟨hft, hff⟩ := hf
  refine lv_if_eq (tgt := 30) hx hb dX5_told_9 (by decide) (fun c1 => ?_) (fun c1 => ?_)
  · have hf := hft c1
    refine lv_iconst (v := (-1)) hx hb dX5_told_30 rfl ?_
    exact hret _ _ _ _ _ _ dX5_told_31 M hf
  · have hf := hff c1
    refine lv_iload_n hx hb dX5_told_12 rfl (lv_at hl 1 rfl) ?_
    refine lv_iconst (v := 0) hx hb dX5_told_13 rfl ?_
    refine lv_iconst (v := 3) hx hb dX5_told_14 rfl ?_
    refine hm_csi C M hl.1 (As := [.int a1, .int 0, .int 3]) (rest := []) (hk_isIn l D dA o b hB a1 0 3 (hm_sI σ 0 0) hf) (n := 3) q2280 q2281 q140 q2282 (by decide +kernel) rfl ⟨Nat.le_of_ble_eq_true rfl, Nat.le_of_ble_eq_true rfl⟩ rfl (Nat.le_of_ble_eq_true rfl) dX5_told_15 (fun r_15 σ_15 H locs hf M => ?_)
    obtain ⟨hft, hff⟩ := hf
    refine lv_if_eq (tgt := 30) hx hb dX5_told_18 (by decide) (fun c1 => ?_) (fun c1 => ?_)
    · have hf := hft c1
      refine lv_iconst (v := (-1)) hx hb dX5_told_30 rfl ?_
      exact hret _ _ _ _ _ _ dX5_told_31 M hf
    · have hf := hff c1
      refine lv_aload_n hx hb dX5_told_21 rfl (lv_at hl 0 rfl) ?_
      refine hm_get C M 40 (by decide) q2107 (v := .ref (b 40)) rfl dX5_told_22 ?_
      refine lv_iload_n hx hb dX5_told_25 rfl (lv_at hl 1 rfl) ?_
      obtain ⟨g1, hf⟩ := hf
      refine hm_ald40 C M g1 dX5_told_26 ?_
      refine lv_goto (tgt := 31) hx hb dX5_told_27 (by decide) ?_
      exact hret _ _ _ _ _ _ dX5_told_31 M hf
def hw_code (a1 : Int32) (a2 : Int32) (a3 : Int32) (σ : hm_S) (Q : hm_S → Prop) : Prop := vp_in (3 * (hm_gI σ 43)) 160 ∧ (vp_in ((3 * (hm_gI (hm_sA σ 8 (3 * (hm_gI σ 43)) a1) 43)) + 1) 160 ∧ (vp_in ((3 * (hm_gI (hm_sA (hm_sA σ 8 (3 * (hm_gI σ 43)) a1) 8 ((3 * (hm_gI (hm_sA σ 8 (3 * (hm_gI σ 43)) a1) 43)) + 1) a2) 43)) + 2) 160 ∧ (Q (hm_sI (hm_sA (hm_sA (hm_sA σ 8 (3 * (hm_gI σ 43)) a1) 8 ((3 * (hm_gI (hm_sA σ 8 (3 * (hm_gI σ 43)) a1) 43)) + 1) a2) 8 ((3 * (hm_gI (hm_sA (hm_sA σ 8 (3 * (hm_gI σ 43)) a1) 8 ((3 * (hm_gI (hm_sA σ 8 (3 * (hm_gI σ 43)) a1) 43)) + 1) a2) 43)) + 2) a3) 43 ((hm_gI (hm_sA (hm_sA (hm_sA σ 8 (3 * (hm_gI σ 43)) a1) 8 ((3 * (hm_gI (hm_sA σ 8 (3 * (hm_gI σ 43)) a1) 43)) + 1) a2) 8 ((3 * (hm_gI (hm_sA (hm_sA σ 8 (3 * (hm_gI σ 43)) a1) 8 ((3 * (hm_gI (hm_sA σ 8 (3 * (hm_gI σ 43)) a1) 43)) + 1) a2) 43)) + 2) a3) 43) + 1)))))
set_option maxHeartbeats 4000000 in
set_option maxRecDepth 100000 in
theorem hk_code (l : Launch) (D : va_G) (dA : Nat → ClassId) (o : Nat) (b : Nat → Nat) (hB : hm_D dA o b) (a1 : Int32) (a2 : Int32) (a3 : Int32) (σ : hm_S) {Q : hm_S → Prop} (hf : hw_code a1 a2 a3 σ Q) : Met l yX5_code (ws_ yX5_code cX5_code 4 none) (hb_R 0 0) (va_Pc [.ref o, .int a1, .int a2, .int a3] (hm_U D dA o b σ)) (va_Qv Q (hm_U D dA o b) (hm_A o b)) 0 0 (hm_A o b) := by
  refine hm_Mv hB (LV := [(0, .ref o), (1, .int a1), (2, .int a2), (3, .int a3)]) (by decide) rfl (Nat.le_of_ble_eq_true rfl) (fun p e s m args below meth c ls QQ C M hl hret => ?_)
  have hx := C.1.1
  have hb := C.1.2.1
  refine lv_aload_n hx hb dX5_code_0 rfl (lv_at hl 0 rfl) ?_
  refine hm_get C M 8 (by decide) q2075 (v := .ref (b 8)) rfl dX5_code_1 ?_
  refine lv_iconst (v := 3) hx hb dX5_code_4 rfl ?_
  refine lv_aload_n hx hb dX5_code_5 rfl (lv_at hl 0 rfl) ?_
  refine hm_get C M 43 (by decide) q2110 (v := .int (hm_gI σ 43)) rfl dX5_code_6 ?_
  refine lv_imul hx hb dX5_code_9 ?_
  refine lv_iload_n hx hb dX5_code_10 rfl (lv_at hl 1 rfl) ?_
  obtain ⟨g1, hf⟩ := hf
  refine hm_ast8 C M g1 dX5_code_11 (fun H locs M => ?_)
  refine lv_aload_n hx hb dX5_code_12 rfl (lv_at hl 0 rfl) ?_
  refine hm_get C M 8 (by decide) q2075 (v := .ref (b 8)) rfl dX5_code_13 ?_
  refine lv_iconst (v := 3) hx hb dX5_code_16 rfl ?_
  refine lv_aload_n hx hb dX5_code_17 rfl (lv_at hl 0 rfl) ?_
  refine hm_get C M 43 (by decide) q2110 (v := .int (hm_gI (hm_sA σ 8 (3 * (hm_gI σ 43)) a1) 43)) rfl dX5_code_18 ?_
  refine lv_imul hx hb dX5_code_21 ?_
  refine lv_iconst (v := 1) hx hb dX5_code_22 rfl ?_
  refine lv_iadd hx hb dX5_code_23 ?_
  refine lv_iload_n hx hb dX5_code_24 rfl (lv_at hl 2 rfl) ?_
  obtain ⟨g1, hf⟩ := hf
  refine hm_ast8 C M g1 dX5_code_25 (fun H locs M => ?_)
  refine lv_aload_n hx hb dX5_code_26 rfl (lv_at hl 0 rfl) ?_
  refine hm_get C M 8 (by decide) q2075 (v := .ref (b 8)) rfl dX5_code_27 ?_
  refine lv_iconst (v := 3) hx hb dX5_code_30 rfl ?_
  refine lv_aload_n hx hb dX5_code_31 rfl (lv_at hl 0 rfl) ?_
  refine hm_get C M 43 (by decide) q2110 (v := .int (hm_gI (hm_sA (hm_sA σ 8 (3 * (hm_gI σ 43)) a1) 8 ((3 * (hm_gI (hm_sA σ 8 (3 * (hm_gI σ 43)) a1) 43)) + 1) a2) 43)) rfl dX5_code_32 ?_
  refine lv_imul hx hb dX5_code_35 ?_
  refine lv_iconst (v := 2) hx hb dX5_code_36 rfl ?_
  refine lv_iadd hx hb dX5_code_37 ?_
  refine lv_iload_n hx hb dX5_code_38 rfl (lv_at hl 3 rfl) ?_
  obtain ⟨g1, hf⟩ := hf
  refine hm_ast8 C M g1 dX5_code_39 (fun H locs M => ?_)
  refine lv_aload_n hx hb dX5_code_40 rfl (lv_at hl 0 rfl) ?_
  refine lv_dup hx hb dX5_code_41 rfl ?_
  refine hm_get C M 43 (by decide) q2110 (v := .int (hm_gI (hm_sA (hm_sA (hm_sA σ 8 (3 * (hm_gI σ 43)) a1) 8 ((3 * (hm_gI (hm_sA σ 8 (3 * (hm_gI σ 43)) a1) 43)) + 1) a2) 8 ((3 * (hm_gI (hm_sA (hm_sA σ 8 (3 * (hm_gI σ 43)) a1) 8 ((3 * (hm_gI (hm_sA σ 8 (3 * (hm_gI σ 43)) a1) 43)) + 1) a2) 43)) + 2) a3) 43)) rfl dX5_code_42 ?_
  refine lv_iconst (v := 1) hx hb dX5_code_45 rfl ?_
  refine lv_iadd hx hb dX5_code_46 ?_
  refine hm_put43 C M q2110 dX5_code_47 (fun H locs M => ?_)
  exact hret _ _ _ _ _ dX5_code_50 M hf
def hw_joins_b0 : Nat → Int32 → hm_S → (hm_S → Prop) → Prop
  | 0, _, _, _ => False
  | n0 + 1, v1_0, σ0, Q => ((hm_gI σ0 45) ≤ 0 → Q σ0) ∧ (¬ (hm_gI σ0 45) ≤ 0 → vp_in ((hm_gI σ0 45) - 1) 45 ∧ (((hm_gA σ0 42 ((hm_gI σ0 45) - 1)) = 21 → vp_in (hm_gI (hm_sI σ0 45 ((hm_gI σ0 45) - 1)) 45) 45 ∧ (hw_code (hm_gA (hm_sI σ0 45 ((hm_gI σ0 45) - 1)) 42 (hm_gI (hm_sI σ0 45 ((hm_gI σ0 45) - 1)) 45)) 0 0 (hm_sI σ0 45 ((hm_gI σ0 45) - 1)) (fun σ_67 => (hw_joins_b0  n0 v1_0 σ_67 Q)))) ∧ (¬ (hm_gA σ0 42 ((hm_gI σ0 45) - 1)) = 21 → vp_in ((hm_gI σ0 45) - 1) 45 ∧ ((¬ (hm_gA σ0 42 ((hm_gI σ0 45) - 1)) = 22 → Q σ0) ∧ ((hm_gA σ0 42 ((hm_gI σ0 45) - 1)) = 22 → (¬ v1_0 = 22 → Q σ0) ∧ (v1_0 = 22 → vp_in (hm_gI (hm_sI σ0 45 ((hm_gI σ0 45) - 1)) 45) 45 ∧ (hw_code (hm_gA (hm_sI σ0 45 ((hm_gI σ0 45) - 1)) 42 (hm_gI (hm_sI σ0 45 ((hm_gI σ0 45) - 1)) 45)) 0 0 (hm_sI σ0 45 ((hm_gI σ0 45) - 1)) (fun σ_67 => (hw_joins_b0  n0 v1_0 σ_67 Q)))))))))
def hw_joins (a1 : Int32) (σ : hm_S) (Q : hm_S → Prop) : Prop := ∃ n, hw_joins_b0  n a1 σ Q
set_option maxHeartbeats 4000000 in
set_option maxRecDepth 100000 in
theorem hk_joins (l : Launch) (D : va_G) (dA : Nat → ClassId) (o : Nat) (b : Nat → Nat) (hB : hm_D dA o b) (a1 : Int32) (σ : hm_S) {Q : hm_S → Prop} (hf : hw_joins a1 σ Q) : Met l yX5_joins (ws_ yX5_joins cX5_joins 2 none) (hb_R 1 23) (va_Pc [.ref o, .int a1] (hm_U D dA o b σ)) (va_Qv Q (hm_U D dA o b) (hm_A o b)) 0 0 (hm_A o b) := by
  refine hm_Mv hB (LV := [(0, .ref o), (1, .int a1)]) (by decide) rfl (Nat.le_of_ble_eq_true rfl) (fun p e s m args below meth c ls QQ C M hl hret => ?_)
  have hx := C.1.1
  have hb := C.1.2.1
  have B0 : ∀ (n0 : Nat) (v1_0 : Int32) (σ0 : hm_S) (H : Heap) (locs : List Loc) (ls : Array Slot), hm_M D dA o b s.heap σ0 H locs → lv_has ls 2 [(0, .ref o), (1, .int v1_0)] → hw_joins_b0  n0 v1_0 σ0 Q → W p l e (hb_R 1 23) s m args below meth c H locs 0 0 QQ (F0 m 0 ls []) := by
    intro n0
    induction n0 with
    | zero => intro v1_0 σ0 H locs ls M hl hf; exact hf.elim
    | succ n0 ih0 =>
      intro v1_0 σ0 H locs ls M hl hf
      refine lv_aload_n hx hb dX5_joins_0 rfl (lv_at hl 0 rfl) ?_
      refine hm_get C M 45 (by decide) q2112 (v := .int (hm_gI σ0 45)) rfl dX5_joins_1 ?_
      obtain ⟨hft, hff⟩ := hf
      refine lv_if_le (tgt := 73) hx hb dX5_joins_4 (by decide) (fun c1 => ?_) (fun c1 => ?_)
      · have hf := hft c1
        exact hret _ _ _ _ _ dX5_joins_73 M hf
      · have hf := hff c1
        refine lv_aload_n hx hb dX5_joins_7 rfl (lv_at hl 0 rfl) ?_
        refine hm_get C M 42 (by decide) q2109 (v := .ref (b 42)) rfl dX5_joins_8 ?_
        refine lv_aload_n hx hb dX5_joins_11 rfl (lv_at hl 0 rfl) ?_
        refine hm_get C M 45 (by decide) q2112 (v := .int (hm_gI σ0 45)) rfl dX5_joins_12 ?_
        refine lv_iconst (v := 1) hx hb dX5_joins_15 rfl ?_
        refine lv_isub hx hb dX5_joins_16 ?_
        obtain ⟨g1, hf⟩ := hf
        refine hm_ald42 C M g1 dX5_joins_17 ?_
        refine lv_bipush (v := 21) hx hb dX5_joins_18 rfl ?_
        obtain ⟨hft, hff⟩ := hf
        refine lv_icmp_eq (tgt := 45) hx hb dX5_joins_20 (by decide) (fun c1 => ?_) (fun c1 => ?_)
        · have hf := hft c1
          refine lv_aload_n hx hb dX5_joins_45 rfl (lv_at hl 0 rfl) ?_
          refine lv_dup hx hb dX5_joins_46 rfl ?_
          refine hm_get C M 45 (by decide) q2112 (v := .int (hm_gI σ0 45)) rfl dX5_joins_47 ?_
          refine lv_iconst (v := 1) hx hb dX5_joins_50 rfl ?_
          refine lv_isub hx hb dX5_joins_51 ?_
          refine hm_put45 C M q2112 dX5_joins_52 (fun H locs M => ?_)
          refine lv_aload_n hx hb dX5_joins_55 rfl (lv_at hl 0 rfl) ?_
          refine lv_aload_n hx hb dX5_joins_56 rfl (lv_at hl 0 rfl) ?_
          refine hm_get C M 42 (by decide) q2109 (v := .ref (b 42)) rfl dX5_joins_57 ?_
          refine lv_aload_n hx hb dX5_joins_60 rfl (lv_at hl 0 rfl) ?_
          refine hm_get C M 45 (by decide) q2112 (v := .int (hm_gI (hm_sI σ0 45 ((hm_gI σ0 45) - 1)) 45)) rfl dX5_joins_61 ?_
          obtain ⟨g1, hf⟩ := hf
          refine hm_ald42 C M g1 dX5_joins_64 ?_
          refine lv_iconst (v := 0) hx hb dX5_joins_65 rfl ?_
          refine lv_iconst (v := 0) hx hb dX5_joins_66 rfl ?_
          refine hm_cv C M hl.1 (As := [.int (hm_gA (hm_sI σ0 45 ((hm_gI σ0 45) - 1)) 42 (hm_gI (hm_sI σ0 45 ((hm_gI σ0 45) - 1)) 45)), .int 0, .int 0]) (rest := []) (hk_code l D dA o b hB (hm_gA (hm_sI σ0 45 ((hm_gI σ0 45) - 1)) 42 (hm_gI (hm_sI σ0 45 ((hm_gI σ0 45) - 1)) 45)) 0 0 (hm_sI σ0 45 ((hm_gI σ0 45) - 1)) hf) (n := 3) q2668 q2670 qs117 q140 q2671 (by decide +kernel) rfl ⟨Nat.le_of_ble_eq_true rfl, Nat.le_of_ble_eq_true rfl⟩ rfl (Nat.le_of_ble_eq_true rfl) dX5_joins_67 (fun σ_67 H locs hf M => ?_)
          refine lv_goto (tgt := 0) hx hb dX5_joins_70 (by decide) ?_
          exact ih0 v1_0 σ_67 _ _ _ M (lv_sub hl [0, 1] rfl) hf
        · have hf := hff c1
          refine lv_aload_n hx hb dX5_joins_23 rfl (lv_at hl 0 rfl) ?_
          refine hm_get C M 42 (by decide) q2109 (v := .ref (b 42)) rfl dX5_joins_24 ?_
          refine lv_aload_n hx hb dX5_joins_27 rfl (lv_at hl 0 rfl) ?_
          refine hm_get C M 45 (by decide) q2112 (v := .int (hm_gI σ0 45)) rfl dX5_joins_28 ?_
          refine lv_iconst (v := 1) hx hb dX5_joins_31 rfl ?_
          refine lv_isub hx hb dX5_joins_32 ?_
          obtain ⟨g1, hf⟩ := hf
          refine hm_ald42 C M g1 dX5_joins_33 ?_
          refine lv_bipush (v := 22) hx hb dX5_joins_34 rfl ?_
          obtain ⟨hft, hff⟩ := hf
          refine lv_icmp_ne (tgt := 73) hx hb dX5_joins_36 (by decide) (fun c1 => ?_) (fun c1 => ?_)
          · have hf := hft c1
            exact hret _ _ _ _ _ dX5_joins_73 M hf
          · have hf := hff c1
            refine lv_iload_n hx hb dX5_joins_39 rfl (lv_at hl 1 rfl) ?_
            refine lv_bipush (v := 22) hx hb dX5_joins_40 rfl ?_
            obtain ⟨hft, hff⟩ := hf
            refine lv_icmp_ne (tgt := 73) hx hb dX5_joins_42 (by decide) (fun c1 => ?_) (fun c1 => ?_)
            · have hf := hft c1
              exact hret _ _ _ _ _ dX5_joins_73 M hf
            · have hf := hff c1
              refine lv_aload_n hx hb dX5_joins_45 rfl (lv_at hl 0 rfl) ?_
              refine lv_dup hx hb dX5_joins_46 rfl ?_
              refine hm_get C M 45 (by decide) q2112 (v := .int (hm_gI σ0 45)) rfl dX5_joins_47 ?_
              refine lv_iconst (v := 1) hx hb dX5_joins_50 rfl ?_
              refine lv_isub hx hb dX5_joins_51 ?_
              refine hm_put45 C M q2112 dX5_joins_52 (fun H locs M => ?_)
              refine lv_aload_n hx hb dX5_joins_55 rfl (lv_at hl 0 rfl) ?_
              refine lv_aload_n hx hb dX5_joins_56 rfl (lv_at hl 0 rfl) ?_
              refine hm_get C M 42 (by decide) q2109 (v := .ref (b 42)) rfl dX5_joins_57 ?_
              refine lv_aload_n hx hb dX5_joins_60 rfl (lv_at hl 0 rfl) ?_
              refine hm_get C M 45 (by decide) q2112 (v := .int (hm_gI (hm_sI σ0 45 ((hm_gI σ0 45) - 1)) 45)) rfl dX5_joins_61 ?_
              obtain ⟨g1, hf⟩ := hf
              refine hm_ald42 C M g1 dX5_joins_64 ?_
              refine lv_iconst (v := 0) hx hb dX5_joins_65 rfl ?_
              refine lv_iconst (v := 0) hx hb dX5_joins_66 rfl ?_
              refine hm_cv C M hl.1 (As := [.int (hm_gA (hm_sI σ0 45 ((hm_gI σ0 45) - 1)) 42 (hm_gI (hm_sI σ0 45 ((hm_gI σ0 45) - 1)) 45)), .int 0, .int 0]) (rest := []) (hk_code l D dA o b hB (hm_gA (hm_sI σ0 45 ((hm_gI σ0 45) - 1)) 42 (hm_gI (hm_sI σ0 45 ((hm_gI σ0 45) - 1)) 45)) 0 0 (hm_sI σ0 45 ((hm_gI σ0 45) - 1)) hf) (n := 3) q2668 q2670 qs117 q140 q2671 (by decide +kernel) rfl ⟨Nat.le_of_ble_eq_true rfl, Nat.le_of_ble_eq_true rfl⟩ rfl (Nat.le_of_ble_eq_true rfl) dX5_joins_67 (fun σ_67 H locs hf M => ?_)
              refine lv_goto (tgt := 0) hx hb dX5_joins_70 (by decide) ?_
              exact ih0 v1_0 σ_67 _ _ _ M (lv_sub hl [0, 1] rfl) hf
  obtain ⟨nn, hf⟩ := hf
  exact B0 nn a1 σ _ _ _ M (lv_sub hl [0, 1] rfl) hf
def hw_nots_b0 : Nat → hm_S → (hm_S → Prop) → Prop
  | 0, _, _ => False
  | n0 + 1, σ0, Q => ((hm_gI σ0 45) ≤ 0 → Q σ0) ∧ (¬ (hm_gI σ0 45) ≤ 0 → vp_in ((hm_gI σ0 45) - 1) 45 ∧ ((¬ (hm_gA σ0 42 ((hm_gI σ0 45) - 1)) = 20 → Q σ0) ∧ ((hm_gA σ0 42 ((hm_gI σ0 45) - 1)) = 20 → hw_code 20 0 0 (hm_sI (hm_sI σ0 45 ((hm_gI σ0 45) - 1)) 46 ((hm_gI (hm_sI σ0 45 ((hm_gI σ0 45) - 1)) 46) - 1)) (fun σ_48 => (hw_nots_b0  n0  σ_48 Q)))))
def hw_nots  (σ : hm_S) (Q : hm_S → Prop) : Prop := ∃ n, hw_nots_b0  n  σ Q
set_option maxHeartbeats 4000000 in
set_option maxRecDepth 100000 in
theorem hk_nots (l : Launch) (D : va_G) (dA : Nat → ClassId) (o : Nat) (b : Nat → Nat) (hB : hm_D dA o b)  (σ : hm_S) {Q : hm_S → Prop} (hf : hw_nots  σ Q) : Met l yX5_nots (ws_ yX5_nots cX5_nots 1 none) (hb_R 1 23) (va_Pc [.ref o] (hm_U D dA o b σ)) (va_Qv Q (hm_U D dA o b) (hm_A o b)) 0 0 (hm_A o b) := by
  refine hm_Mv hB (LV := [(0, .ref o)]) (by decide) rfl (Nat.le_of_ble_eq_true rfl) (fun p e s m args below meth c ls QQ C M hl hret => ?_)
  have hx := C.1.1
  have hb := C.1.2.1
  have B0 : ∀ (n0 : Nat)  (σ0 : hm_S) (H : Heap) (locs : List Loc) (ls : Array Slot), hm_M D dA o b s.heap σ0 H locs → lv_has ls 1 [(0, .ref o)] → hw_nots_b0  n0  σ0 Q → W p l e (hb_R 1 23) s m args below meth c H locs 0 0 QQ (F0 m 0 ls []) := by
    intro n0
    induction n0 with
    | zero => intro  σ0 H locs ls M hl hf; exact hf.elim
    | succ n0 ih0 =>
      intro  σ0 H locs ls M hl hf
      refine lv_aload_n hx hb dX5_nots_0 rfl (lv_at hl 0 rfl) ?_
      refine hm_get C M 45 (by decide) q2112 (v := .int (hm_gI σ0 45)) rfl dX5_nots_1 ?_
      obtain ⟨hft, hff⟩ := hf
      refine lv_if_le (tgt := 54) hx hb dX5_nots_4 (by decide) (fun c1 => ?_) (fun c1 => ?_)
      · have hf := hft c1
        exact hret _ _ _ _ _ dX5_nots_54 M hf
      · have hf := hff c1
        refine lv_aload_n hx hb dX5_nots_7 rfl (lv_at hl 0 rfl) ?_
        refine hm_get C M 42 (by decide) q2109 (v := .ref (b 42)) rfl dX5_nots_8 ?_
        refine lv_aload_n hx hb dX5_nots_11 rfl (lv_at hl 0 rfl) ?_
        refine hm_get C M 45 (by decide) q2112 (v := .int (hm_gI σ0 45)) rfl dX5_nots_12 ?_
        refine lv_iconst (v := 1) hx hb dX5_nots_15 rfl ?_
        refine lv_isub hx hb dX5_nots_16 ?_
        obtain ⟨g1, hf⟩ := hf
        refine hm_ald42 C M g1 dX5_nots_17 ?_
        refine lv_bipush (v := 20) hx hb dX5_nots_18 rfl ?_
        obtain ⟨hft, hff⟩ := hf
        refine lv_icmp_ne (tgt := 54) hx hb dX5_nots_20 (by decide) (fun c1 => ?_) (fun c1 => ?_)
        · have hf := hft c1
          exact hret _ _ _ _ _ dX5_nots_54 M hf
        · have hf := hff c1
          refine lv_aload_n hx hb dX5_nots_23 rfl (lv_at hl 0 rfl) ?_
          refine lv_dup hx hb dX5_nots_24 rfl ?_
          refine hm_get C M 45 (by decide) q2112 (v := .int (hm_gI σ0 45)) rfl dX5_nots_25 ?_
          refine lv_iconst (v := 1) hx hb dX5_nots_28 rfl ?_
          refine lv_isub hx hb dX5_nots_29 ?_
          refine hm_put45 C M q2112 dX5_nots_30 (fun H locs M => ?_)
          refine lv_aload_n hx hb dX5_nots_33 rfl (lv_at hl 0 rfl) ?_
          refine lv_dup hx hb dX5_nots_34 rfl ?_
          refine hm_get C M 46 (by decide) q2113 (v := .int (hm_gI (hm_sI σ0 45 ((hm_gI σ0 45) - 1)) 46)) rfl dX5_nots_35 ?_
          refine lv_iconst (v := 1) hx hb dX5_nots_38 rfl ?_
          refine lv_isub hx hb dX5_nots_39 ?_
          refine hm_put46 C M q2113 dX5_nots_40 (fun H locs M => ?_)
          refine lv_aload_n hx hb dX5_nots_43 rfl (lv_at hl 0 rfl) ?_
          refine lv_bipush (v := 20) hx hb dX5_nots_44 rfl ?_
          refine lv_iconst (v := 0) hx hb dX5_nots_46 rfl ?_
          refine lv_iconst (v := 0) hx hb dX5_nots_47 rfl ?_
          refine hm_cv C M hl.1 (As := [.int 20, .int 0, .int 0]) (rest := []) (hk_code l D dA o b hB 20 0 0 (hm_sI (hm_sI σ0 45 ((hm_gI σ0 45) - 1)) 46 ((hm_gI (hm_sI σ0 45 ((hm_gI σ0 45) - 1)) 46) - 1)) hf) (n := 3) q2668 q2670 qs117 q140 q2671 (by decide +kernel) rfl ⟨Nat.le_of_ble_eq_true rfl, Nat.le_of_ble_eq_true rfl⟩ rfl (Nat.le_of_ble_eq_true rfl) dX5_nots_48 (fun σ_48 H locs hf M => ?_)
          refine lv_goto (tgt := 0) hx hb dX5_nots_51 (by decide) ?_
          exact ih0  σ_48 _ _ _ M (lv_sub hl [0] rfl) hf
  obtain ⟨nn, hf⟩ := hf
  exact B0 nn  σ _ _ _ M (lv_sub hl [0] rfl) hf
def hw_behind_b42 (t1_42 : Int32) (σ42 : hm_S) (Q : Int32 → hm_S → Prop) : Prop := hw_joins t1_42 σ42 (fun σ_42 => (hw_isWord 6385252 σ_42 (fun r_57 σ_57 => ((r_57 = 0 → vp_in (hm_gI σ_42 45) 45 ∧ (hw_next  (hm_sI (hm_sI (hm_sA σ_57 42 (hm_gI σ_42 45) 22) 45 ((hm_gI (hm_sA σ_57 42 (hm_gI σ_42 45) 22) 45) + 1)) 47 0) (fun σ_87 => (Q 1 σ_87)))) ∧ (¬ r_57 = 0 → vp_in (hm_gI σ_42 45) 45 ∧ (hw_next  (hm_sI (hm_sI (hm_sA σ_57 42 (hm_gI σ_42 45) 21) 45 ((hm_gI (hm_sA σ_57 42 (hm_gI σ_42 45) 21) 45) + 1)) 47 0) (fun σ_87 => (Q 1 σ_87))))))))
def hw_behind_b24  (σ24 : hm_S) (Q : Int32 → hm_S → Prop) : Prop := hw_isWord 6385252 σ24 (fun r_29 σ_29 => ((r_29 = 0 → hw_behind_b42  22 σ_29 Q) ∧ (¬ r_29 = 0 → hw_behind_b42  21 σ_29 Q)))
def hw_behind  (σ : hm_S) (Q : Int32 → hm_S → Prop) : Prop := hw_nots  σ (fun σ_1 => (hw_isWord 6385252 σ_1 (fun r_8 σ_8 => ((¬ r_8 = 0 → hw_behind_b24   σ_8 Q) ∧ (r_8 = 0 → hw_isWord 28530 σ_8 (fun r_18 σ_18 => ((r_18 = 0 → hw_joins 22 σ_18 (fun σ_95 => (hw_isSign 41 σ_95 (fun r_101 σ_101 => ((r_101 = 0 → hw_bad 1 σ_101 (fun r_116 σ_116 => (hb_B r_116 ∧ Q r_116 σ_116))) ∧ (¬ r_101 = 0 → (¬ (hm_gI σ_101 45) = 0 → hw_next  (hm_sI (hm_sI σ_101 45 ((hm_gI σ_101 45) - 1)) 46 ((hm_gI (hm_sI σ_101 45 ((hm_gI σ_101 45) - 1)) 46) - 1)) (fun σ_141 => (Q 1 σ_141))) ∧ ((hm_gI σ_101 45) = 0 → hw_bad 1 σ_101 (fun r_116 σ_116 => (hb_B r_116 ∧ Q r_116 σ_116))))))))) ∧ (¬ r_18 = 0 → hw_behind_b24   σ_18 Q))))))))
set_option maxHeartbeats 4000000 in
set_option maxRecDepth 100000 in
theorem hk_behind (l : Launch) (D : va_G) (dA : Nat → ClassId) (o : Nat) (b : Nat → Nat) (hB : hm_D dA o b)  (σ : hm_S) {Q : Int32 → hm_S → Prop} (hf : hw_behind  σ Q) : Met l yX5_behind (ws_ yX5_behind cX5_behind 1 (some .boolean)) (hb_R 2 44) (va_Pc [.ref o] (hm_U D dA o b σ)) (va_Qi Q (hm_U D dA o b) (hm_A o b)) 0 0 (hm_A o b) := by
  refine hm_Mz hB (LV := [(0, .ref o)]) (by decide) rfl (Nat.le_of_ble_eq_true rfl) (fun p e s m args below meth c ls QQ C M hl hret => ?_)
  have hx := C.1.1
  have hb := C.1.2.1
  have B42 : ∀ (t1_42 : Int32) (σ42 : hm_S) (H : Heap) (locs : List Loc) (ls : Array Slot), hm_M D dA o b s.heap σ42 H locs → lv_has ls 1 [(0, .ref o)] → hw_behind_b42  t1_42 σ42 Q → W p l e (hb_R 2 44) s m args below meth c H locs 0 0 QQ (F0 m 42 ls [.int t1_42, .ref o]) := by
    intro t1_42 σ42 H locs ls M hl hf
    refine hm_cv C M hl.1 (As := [.int t1_42]) (rest := []) (hk_joins l D dA o b hB t1_42 σ42 hf) (n := 1) q2672 q2674 qs118 q140 q2675 (by decide +kernel) rfl ⟨Nat.le_of_ble_eq_true rfl, Nat.le_of_ble_eq_true rfl⟩ rfl (Nat.le_of_ble_eq_true rfl) dX5_behind_42 (fun σ_42 H locs hf M => ?_)
    refine lv_aload_n hx hb dX5_behind_45 rfl (lv_at hl 0 rfl) ?_
    refine hm_get C M 42 (by decide) q2109 (v := .ref (b 42)) rfl dX5_behind_46 ?_
    refine lv_aload_n hx hb dX5_behind_49 rfl (lv_at hl 0 rfl) ?_
    refine hm_get C M 45 (by decide) q2112 (v := .int (hm_gI σ_42 45)) rfl dX5_behind_50 ?_
    refine lv_aload_n hx hb dX5_behind_53 rfl (lv_at hl 0 rfl) ?_
    refine lv_ldc2 hx hb C.1.2.2.2.1 (C.1.2.2.2.2 _ q2053) dX5_behind_54 ?_
    refine hm_ci C M hl.1 (As := [.long 6385252]) (rest := [.int (hm_gI σ_42 45), .ref (b 42)]) (hk_isWord l D dA o b hB 6385252 σ_42 hf) (n := 1) q2252 q2254 qs53 q140 q2255 (by decide +kernel) rfl ⟨Nat.le_of_ble_eq_true rfl, Nat.le_of_ble_eq_true rfl⟩ rfl (Nat.le_of_ble_eq_true rfl) dX5_behind_57 (fun r_57 σ_57 H locs hf M => ?_)
    obtain ⟨hft, hff⟩ := hf
    refine lv_if_eq (tgt := 68) hx hb dX5_behind_60 (by decide) (fun c1 => ?_) (fun c1 => ?_)
    · have hf := hft c1
      refine lv_bipush (v := 22) hx hb dX5_behind_68 rfl ?_
      obtain ⟨g1, hf⟩ := hf
      refine hm_ast42 C M g1 dX5_behind_70 (fun H locs M => ?_)
      refine lv_aload_n hx hb dX5_behind_71 rfl (lv_at hl 0 rfl) ?_
      refine lv_dup hx hb dX5_behind_72 rfl ?_
      refine hm_get C M 45 (by decide) q2112 (v := .int (hm_gI (hm_sA σ_57 42 (hm_gI σ_42 45) 22) 45)) rfl dX5_behind_73 ?_
      refine lv_iconst (v := 1) hx hb dX5_behind_76 rfl ?_
      refine lv_iadd hx hb dX5_behind_77 ?_
      refine hm_put45 C M q2112 dX5_behind_78 (fun H locs M => ?_)
      refine lv_aload_n hx hb dX5_behind_81 rfl (lv_at hl 0 rfl) ?_
      refine lv_iconst (v := 0) hx hb dX5_behind_82 rfl ?_
      refine hm_put47 C M hb_B0 q2114 dX5_behind_83 (fun H locs M => ?_)
      refine lv_aload_n hx hb dX5_behind_86 rfl (lv_at hl 0 rfl) ?_
      refine hm_cv C M hl.1 (As := []) (rest := []) (hk_next l D dA o b hB  (hm_sI (hm_sI (hm_sA σ_57 42 (hm_gI σ_42 45) 22) 45 ((hm_gI (hm_sA σ_57 42 (hm_gI σ_42 45) 22) 45) + 1)) 47 0) hf) (n := 0) q2234 q2236 qs50 q140 q2237 (by decide +kernel) rfl ⟨Nat.le_of_ble_eq_true rfl, Nat.le_of_ble_eq_true rfl⟩ rfl (Nat.le_of_ble_eq_true rfl) dX5_behind_87 (fun σ_87 H locs hf M => ?_)
      refine lv_iconst (v := 1) hx hb dX5_behind_90 rfl ?_
      exact hret _ _ _ _ _ _ dX5_behind_91 M hb_B1 hf
    · have hf := hff c1
      refine lv_bipush (v := 21) hx hb dX5_behind_63 rfl ?_
      refine lv_goto (tgt := 70) hx hb dX5_behind_65 (by decide) ?_
      obtain ⟨g1, hf⟩ := hf
      refine hm_ast42 C M g1 dX5_behind_70 (fun H locs M => ?_)
      refine lv_aload_n hx hb dX5_behind_71 rfl (lv_at hl 0 rfl) ?_
      refine lv_dup hx hb dX5_behind_72 rfl ?_
      refine hm_get C M 45 (by decide) q2112 (v := .int (hm_gI (hm_sA σ_57 42 (hm_gI σ_42 45) 21) 45)) rfl dX5_behind_73 ?_
      refine lv_iconst (v := 1) hx hb dX5_behind_76 rfl ?_
      refine lv_iadd hx hb dX5_behind_77 ?_
      refine hm_put45 C M q2112 dX5_behind_78 (fun H locs M => ?_)
      refine lv_aload_n hx hb dX5_behind_81 rfl (lv_at hl 0 rfl) ?_
      refine lv_iconst (v := 0) hx hb dX5_behind_82 rfl ?_
      refine hm_put47 C M hb_B0 q2114 dX5_behind_83 (fun H locs M => ?_)
      refine lv_aload_n hx hb dX5_behind_86 rfl (lv_at hl 0 rfl) ?_
      refine hm_cv C M hl.1 (As := []) (rest := []) (hk_next l D dA o b hB  (hm_sI (hm_sI (hm_sA σ_57 42 (hm_gI σ_42 45) 21) 45 ((hm_gI (hm_sA σ_57 42 (hm_gI σ_42 45) 21) 45) + 1)) 47 0) hf) (n := 0) q2234 q2236 qs50 q140 q2237 (by decide +kernel) rfl ⟨Nat.le_of_ble_eq_true rfl, Nat.le_of_ble_eq_true rfl⟩ rfl (Nat.le_of_ble_eq_true rfl) dX5_behind_87 (fun σ_87 H locs hf M => ?_)
      refine lv_iconst (v := 1) hx hb dX5_behind_90 rfl ?_
      exact hret _ _ _ _ _ _ dX5_behind_91 M hb_B1 hf
  have B24 : ∀  (σ24 : hm_S) (H : Heap) (locs : List Loc) (ls : Array Slot), hm_M D dA o b s.heap σ24 H locs → lv_has ls 1 [(0, .ref o)] → hw_behind_b24   σ24 Q → W p l e (hb_R 2 44) s m args below meth c H locs 0 0 QQ (F0 m 24 ls []) := by
    intro  σ24 H locs ls M hl hf
    refine lv_aload_n hx hb dX5_behind_24 rfl (lv_at hl 0 rfl) ?_
    refine lv_aload_n hx hb dX5_behind_25 rfl (lv_at hl 0 rfl) ?_
    refine lv_ldc2 hx hb C.1.2.2.2.1 (C.1.2.2.2.2 _ q2053) dX5_behind_26 ?_
    refine hm_ci C M hl.1 (As := [.long 6385252]) (rest := [.ref o]) (hk_isWord l D dA o b hB 6385252 σ24 hf) (n := 1) q2252 q2254 qs53 q140 q2255 (by decide +kernel) rfl ⟨Nat.le_of_ble_eq_true rfl, Nat.le_of_ble_eq_true rfl⟩ rfl (Nat.le_of_ble_eq_true rfl) dX5_behind_29 (fun r_29 σ_29 H locs hf M => ?_)
    obtain ⟨hft, hff⟩ := hf
    refine lv_if_eq (tgt := 40) hx hb dX5_behind_32 (by decide) (fun c1 => ?_) (fun c1 => ?_)
    · have hf := hft c1
      refine lv_bipush (v := 22) hx hb dX5_behind_40 rfl ?_
      exact B42 22 σ_29 _ _ _ M (lv_sub hl [0] rfl) hf
    · have hf := hff c1
      refine lv_bipush (v := 21) hx hb dX5_behind_35 rfl ?_
      refine lv_goto (tgt := 42) hx hb dX5_behind_37 (by decide) ?_
      exact B42 21 σ_29 _ _ _ M (lv_sub hl [0] rfl) hf
  refine lv_aload_n hx hb dX5_behind_0 rfl (lv_at hl 0 rfl) ?_
  refine hm_cv C M hl.1 (As := []) (rest := []) (hk_nots l D dA o b hB  σ hf) (n := 0) q2664 q2666 qs116 q140 q2667 (by decide +kernel) rfl ⟨Nat.le_of_ble_eq_true rfl, Nat.le_of_ble_eq_true rfl⟩ rfl (Nat.le_of_ble_eq_true rfl) dX5_behind_1 (fun σ_1 H locs hf M => ?_)
  refine lv_aload_n hx hb dX5_behind_4 rfl (lv_at hl 0 rfl) ?_
  refine lv_ldc2 hx hb C.1.2.2.2.1 (C.1.2.2.2.2 _ q2053) dX5_behind_5 ?_
  refine hm_ci C M hl.1 (As := [.long 6385252]) (rest := []) (hk_isWord l D dA o b hB 6385252 σ_1 hf) (n := 1) q2252 q2254 qs53 q140 q2255 (by decide +kernel) rfl ⟨Nat.le_of_ble_eq_true rfl, Nat.le_of_ble_eq_true rfl⟩ rfl (Nat.le_of_ble_eq_true rfl) dX5_behind_8 (fun r_8 σ_8 H locs hf M => ?_)
  obtain ⟨hft, hff⟩ := hf
  refine lv_if_ne (tgt := 24) hx hb dX5_behind_11 (by decide) (fun c1 => ?_) (fun c1 => ?_)
  · have hf := hft c1
    exact B24  σ_8 _ _ _ M (lv_sub hl [0] rfl) hf
  · have hf := hff c1
    refine lv_aload_n hx hb dX5_behind_14 rfl (lv_at hl 0 rfl) ?_
    refine lv_ldc2 hx hb C.1.2.2.2.1 (C.1.2.2.2.2 _ q2052) dX5_behind_15 ?_
    refine hm_ci C M hl.1 (As := [.long 28530]) (rest := []) (hk_isWord l D dA o b hB 28530 σ_8 hf) (n := 1) q2252 q2254 qs53 q140 q2255 (by decide +kernel) rfl ⟨Nat.le_of_ble_eq_true rfl, Nat.le_of_ble_eq_true rfl⟩ rfl (Nat.le_of_ble_eq_true rfl) dX5_behind_18 (fun r_18 σ_18 H locs hf M => ?_)
    obtain ⟨hft, hff⟩ := hf
    refine lv_if_eq (tgt := 92) hx hb dX5_behind_21 (by decide) (fun c1 => ?_) (fun c1 => ?_)
    · have hf := hft c1
      refine lv_aload_n hx hb dX5_behind_92 rfl (lv_at hl 0 rfl) ?_
      refine lv_bipush (v := 22) hx hb dX5_behind_93 rfl ?_
      refine hm_cv C M hl.1 (As := [.int 22]) (rest := []) (hk_joins l D dA o b hB 22 σ_18 hf) (n := 1) q2672 q2674 qs118 q140 q2675 (by decide +kernel) rfl ⟨Nat.le_of_ble_eq_true rfl, Nat.le_of_ble_eq_true rfl⟩ rfl (Nat.le_of_ble_eq_true rfl) dX5_behind_95 (fun σ_95 H locs hf M => ?_)
      refine lv_aload_n hx hb dX5_behind_98 rfl (lv_at hl 0 rfl) ?_
      refine lv_bipush (v := 41) hx hb dX5_behind_99 rfl ?_
      refine hm_ci C M hl.1 (As := [.int 41]) (rest := []) (hk_isSign l D dA o b hB 41 σ_95 hf) (n := 1) q2321 q2323 qs68 q140 q2324 (by decide +kernel) rfl ⟨Nat.le_of_ble_eq_true rfl, Nat.le_of_ble_eq_true rfl⟩ rfl (Nat.le_of_ble_eq_true rfl) dX5_behind_101 (fun r_101 σ_101 H locs hf M => ?_)
      obtain ⟨hft, hff⟩ := hf
      refine lv_if_eq (tgt := 114) hx hb dX5_behind_104 (by decide) (fun c1 => ?_) (fun c1 => ?_)
      · have hf := hft c1
        refine lv_aload_n hx hb dX5_behind_114 rfl (lv_at hl 0 rfl) ?_
        refine lv_iconst (v := 1) hx hb dX5_behind_115 rfl ?_
        refine hm_ci C M hl.1 (As := [.int 1]) (rest := []) (hk_bad l D dA o b hB 1 σ_101 hf) (n := 1) q2260 q2262 qs55 q140 q2263 (by decide +kernel) rfl ⟨Nat.le_of_ble_eq_true rfl, Nat.le_of_ble_eq_true rfl⟩ rfl (Nat.le_of_ble_eq_true rfl) dX5_behind_116 (fun r_116 σ_116 H locs hf M => ?_)
        exact hret _ _ _ _ _ _ dX5_behind_119 M hf.1 hf.2
      · have hf := hff c1
        refine lv_aload_n hx hb dX5_behind_107 rfl (lv_at hl 0 rfl) ?_
        refine hm_get C M 45 (by decide) q2112 (v := .int (hm_gI σ_101 45)) rfl dX5_behind_108 ?_
        obtain ⟨hft, hff⟩ := hf
        refine lv_if_ne (tgt := 120) hx hb dX5_behind_111 (by decide) (fun c1 => ?_) (fun c1 => ?_)
        · have hf := hft c1
          refine lv_aload_n hx hb dX5_behind_120 rfl (lv_at hl 0 rfl) ?_
          refine lv_dup hx hb dX5_behind_121 rfl ?_
          refine hm_get C M 45 (by decide) q2112 (v := .int (hm_gI σ_101 45)) rfl dX5_behind_122 ?_
          refine lv_iconst (v := 1) hx hb dX5_behind_125 rfl ?_
          refine lv_isub hx hb dX5_behind_126 ?_
          refine hm_put45 C M q2112 dX5_behind_127 (fun H locs M => ?_)
          refine lv_aload_n hx hb dX5_behind_130 rfl (lv_at hl 0 rfl) ?_
          refine lv_dup hx hb dX5_behind_131 rfl ?_
          refine hm_get C M 46 (by decide) q2113 (v := .int (hm_gI (hm_sI σ_101 45 ((hm_gI σ_101 45) - 1)) 46)) rfl dX5_behind_132 ?_
          refine lv_iconst (v := 1) hx hb dX5_behind_135 rfl ?_
          refine lv_isub hx hb dX5_behind_136 ?_
          refine hm_put46 C M q2113 dX5_behind_137 (fun H locs M => ?_)
          refine lv_aload_n hx hb dX5_behind_140 rfl (lv_at hl 0 rfl) ?_
          refine hm_cv C M hl.1 (As := []) (rest := []) (hk_next l D dA o b hB  (hm_sI (hm_sI σ_101 45 ((hm_gI σ_101 45) - 1)) 46 ((hm_gI (hm_sI σ_101 45 ((hm_gI σ_101 45) - 1)) 46) - 1)) hf) (n := 0) q2234 q2236 qs50 q140 q2237 (by decide +kernel) rfl ⟨Nat.le_of_ble_eq_true rfl, Nat.le_of_ble_eq_true rfl⟩ rfl (Nat.le_of_ble_eq_true rfl) dX5_behind_141 (fun σ_141 H locs hf M => ?_)
          refine lv_iconst (v := 1) hx hb dX5_behind_144 rfl ?_
          exact hret _ _ _ _ _ _ dX5_behind_145 M hb_B1 hf
        · have hf := hff c1
          refine lv_aload_n hx hb dX5_behind_114 rfl (lv_at hl 0 rfl) ?_
          refine lv_iconst (v := 1) hx hb dX5_behind_115 rfl ?_
          refine hm_ci C M hl.1 (As := [.int 1]) (rest := []) (hk_bad l D dA o b hB 1 σ_101 hf) (n := 1) q2260 q2262 qs55 q140 q2263 (by decide +kernel) rfl ⟨Nat.le_of_ble_eq_true rfl, Nat.le_of_ble_eq_true rfl⟩ rfl (Nat.le_of_ble_eq_true rfl) dX5_behind_116 (fun r_116 σ_116 H locs hf M => ?_)
          exact hret _ _ _ _ _ _ dX5_behind_119 M hf.1 hf.2
    · have hf := hff c1
      exact B24  σ_18 _ _ _ M (lv_sub hl [0] rfl) hf
def hw_leafOf  (σ : hm_S) (Q : Int32 → hm_S → Prop) : Prop := hw_isWord 1684365668 σ (fun r_4 σ_4 => ((r_4 = 0 → hw_isWord 7824740 σ_4 (fun r_18 σ_18 => ((r_18 = 0 → hw_isWord 122537302843758 σ_18 (fun r_32 σ_32 => ((r_32 = 0 → hw_isWord 7039342 σ_32 (fun r_46 σ_46 => ((r_46 = 0 → hw_isWord 28518 σ_46 (fun r_60 σ_60 => ((r_60 = 0 → hw_isWord 427070942835 σ_60 (fun r_74 σ_74 => ((r_74 = 0 → hw_isWord 6383461 σ_74 (fun r_88 σ_88 => ((r_88 = 0 → hw_isWord 452908512613 σ_88 (fun r_103 σ_103 => ((r_103 = 0 → hw_isWord 121450625394034 σ_103 (fun r_118 σ_118 => ((r_118 = 0 → Q (-1) σ_118) ∧ (¬ r_118 = 0 → Q 8 σ_118)))) ∧ (¬ r_103 = 0 → Q 7 σ_103)))) ∧ (¬ r_88 = 0 → Q 6 σ_88)))) ∧ (¬ r_74 = 0 → Q 5 σ_74)))) ∧ (¬ r_60 = 0 → Q 4 σ_60)))) ∧ (¬ r_46 = 0 → Q 3 σ_46)))) ∧ (¬ r_32 = 0 → Q 2 σ_32)))) ∧ (¬ r_18 = 0 → Q 1 σ_18)))) ∧ (¬ r_4 = 0 → Q 0 σ_4)))
set_option maxHeartbeats 4000000 in
set_option maxRecDepth 100000 in
theorem hk_leafOf (l : Launch) (D : va_G) (dA : Nat → ClassId) (o : Nat) (b : Nat → Nat) (hB : hm_D dA o b)  (σ : hm_S) {Q : Int32 → hm_S → Prop} (hf : hw_leafOf  σ Q) : Met l yX5_leafOf (ws_ yX5_leafOf cX5_leafOf 1 (some .int)) (hb_R 1 22) (va_Pc [.ref o] (hm_U D dA o b σ)) (va_Qi Q (hm_U D dA o b) (hm_A o b)) 0 0 (hm_A o b) := by
  refine hm_Mi hB (LV := [(0, .ref o)]) (by decide) rfl (Nat.le_of_ble_eq_true rfl) (fun p e s m args below meth c ls QQ C M hl hret => ?_)
  have hx := C.1.1
  have hb := C.1.2.1
  refine lv_aload_n hx hb dX5_leafOf_0 rfl (lv_at hl 0 rfl) ?_
  refine lv_ldc2 hx hb C.1.2.2.2.1 (C.1.2.2.2.2 _ q2055) dX5_leafOf_1 ?_
  refine hm_ci C M hl.1 (As := [.long 1684365668]) (rest := []) (hk_isWord l D dA o b hB 1684365668 σ hf) (n := 1) q2252 q2254 qs53 q140 q2255 (by decide +kernel) rfl ⟨Nat.le_of_ble_eq_true rfl, Nat.le_of_ble_eq_true rfl⟩ rfl (Nat.le_of_ble_eq_true rfl) dX5_leafOf_4 (fun r_4 σ_4 H locs hf M => ?_)
  obtain ⟨hft, hff⟩ := hf
  refine lv_if_eq (tgt := 14) hx hb dX5_leafOf_7 (by decide) (fun c1 => ?_) (fun c1 => ?_)
  · have hf := hft c1
    refine lv_aload_n hx hb dX5_leafOf_14 rfl (lv_at hl 0 rfl) ?_
    refine lv_ldc2 hx hb C.1.2.2.2.1 (C.1.2.2.2.2 _ q2042) dX5_leafOf_15 ?_
    refine hm_ci C M hl.1 (As := [.long 7824740]) (rest := []) (hk_isWord l D dA o b hB 7824740 σ_4 hf) (n := 1) q2252 q2254 qs53 q140 q2255 (by decide +kernel) rfl ⟨Nat.le_of_ble_eq_true rfl, Nat.le_of_ble_eq_true rfl⟩ rfl (Nat.le_of_ble_eq_true rfl) dX5_leafOf_18 (fun r_18 σ_18 H locs hf M => ?_)
    obtain ⟨hft, hff⟩ := hf
    refine lv_if_eq (tgt := 28) hx hb dX5_leafOf_21 (by decide) (fun c1 => ?_) (fun c1 => ?_)
    · have hf := hft c1
      refine lv_aload_n hx hb dX5_leafOf_28 rfl (lv_at hl 0 rfl) ?_
      refine lv_ldc2 hx hb C.1.2.2.2.1 (C.1.2.2.2.2 _ q2056) dX5_leafOf_29 ?_
      refine hm_ci C M hl.1 (As := [.long 122537302843758]) (rest := []) (hk_isWord l D dA o b hB 122537302843758 σ_18 hf) (n := 1) q2252 q2254 qs53 q140 q2255 (by decide +kernel) rfl ⟨Nat.le_of_ble_eq_true rfl, Nat.le_of_ble_eq_true rfl⟩ rfl (Nat.le_of_ble_eq_true rfl) dX5_leafOf_32 (fun r_32 σ_32 H locs hf M => ?_)
      obtain ⟨hft, hff⟩ := hf
      refine lv_if_eq (tgt := 42) hx hb dX5_leafOf_35 (by decide) (fun c1 => ?_) (fun c1 => ?_)
      · have hf := hft c1
        refine lv_aload_n hx hb dX5_leafOf_42 rfl (lv_at hl 0 rfl) ?_
        refine lv_ldc2 hx hb C.1.2.2.2.1 (C.1.2.2.2.2 _ q2057) dX5_leafOf_43 ?_
        refine hm_ci C M hl.1 (As := [.long 7039342]) (rest := []) (hk_isWord l D dA o b hB 7039342 σ_32 hf) (n := 1) q2252 q2254 qs53 q140 q2255 (by decide +kernel) rfl ⟨Nat.le_of_ble_eq_true rfl, Nat.le_of_ble_eq_true rfl⟩ rfl (Nat.le_of_ble_eq_true rfl) dX5_leafOf_46 (fun r_46 σ_46 H locs hf M => ?_)
        obtain ⟨hft, hff⟩ := hf
        refine lv_if_eq (tgt := 56) hx hb dX5_leafOf_49 (by decide) (fun c1 => ?_) (fun c1 => ?_)
        · have hf := hft c1
          refine lv_aload_n hx hb dX5_leafOf_56 rfl (lv_at hl 0 rfl) ?_
          refine lv_ldc2 hx hb C.1.2.2.2.1 (C.1.2.2.2.2 _ q2058) dX5_leafOf_57 ?_
          refine hm_ci C M hl.1 (As := [.long 28518]) (rest := []) (hk_isWord l D dA o b hB 28518 σ_46 hf) (n := 1) q2252 q2254 qs53 q140 q2255 (by decide +kernel) rfl ⟨Nat.le_of_ble_eq_true rfl, Nat.le_of_ble_eq_true rfl⟩ rfl (Nat.le_of_ble_eq_true rfl) dX5_leafOf_60 (fun r_60 σ_60 H locs hf M => ?_)
          obtain ⟨hft, hff⟩ := hf
          refine lv_if_eq (tgt := 70) hx hb dX5_leafOf_63 (by decide) (fun c1 => ?_) (fun c1 => ?_)
          · have hf := hft c1
            refine lv_aload_n hx hb dX5_leafOf_70 rfl (lv_at hl 0 rfl) ?_
            refine lv_ldc2 hx hb C.1.2.2.2.1 (C.1.2.2.2.2 _ q2059) dX5_leafOf_71 ?_
            refine hm_ci C M hl.1 (As := [.long 427070942835]) (rest := []) (hk_isWord l D dA o b hB 427070942835 σ_60 hf) (n := 1) q2252 q2254 qs53 q140 q2255 (by decide +kernel) rfl ⟨Nat.le_of_ble_eq_true rfl, Nat.le_of_ble_eq_true rfl⟩ rfl (Nat.le_of_ble_eq_true rfl) dX5_leafOf_74 (fun r_74 σ_74 H locs hf M => ?_)
            obtain ⟨hft, hff⟩ := hf
            refine lv_if_eq (tgt := 84) hx hb dX5_leafOf_77 (by decide) (fun c1 => ?_) (fun c1 => ?_)
            · have hf := hft c1
              refine lv_aload_n hx hb dX5_leafOf_84 rfl (lv_at hl 0 rfl) ?_
              refine lv_ldc2 hx hb C.1.2.2.2.1 (C.1.2.2.2.2 _ q2060) dX5_leafOf_85 ?_
              refine hm_ci C M hl.1 (As := [.long 6383461]) (rest := []) (hk_isWord l D dA o b hB 6383461 σ_74 hf) (n := 1) q2252 q2254 qs53 q140 q2255 (by decide +kernel) rfl ⟨Nat.le_of_ble_eq_true rfl, Nat.le_of_ble_eq_true rfl⟩ rfl (Nat.le_of_ble_eq_true rfl) dX5_leafOf_88 (fun r_88 σ_88 H locs hf M => ?_)
              obtain ⟨hft, hff⟩ := hf
              refine lv_if_eq (tgt := 99) hx hb dX5_leafOf_91 (by decide) (fun c1 => ?_) (fun c1 => ?_)
              · have hf := hft c1
                refine lv_aload_n hx hb dX5_leafOf_99 rfl (lv_at hl 0 rfl) ?_
                refine lv_ldc2 hx hb C.1.2.2.2.1 (C.1.2.2.2.2 _ q2061) dX5_leafOf_100 ?_
                refine hm_ci C M hl.1 (As := [.long 452908512613]) (rest := []) (hk_isWord l D dA o b hB 452908512613 σ_88 hf) (n := 1) q2252 q2254 qs53 q140 q2255 (by decide +kernel) rfl ⟨Nat.le_of_ble_eq_true rfl, Nat.le_of_ble_eq_true rfl⟩ rfl (Nat.le_of_ble_eq_true rfl) dX5_leafOf_103 (fun r_103 σ_103 H locs hf M => ?_)
                obtain ⟨hft, hff⟩ := hf
                refine lv_if_eq (tgt := 114) hx hb dX5_leafOf_106 (by decide) (fun c1 => ?_) (fun c1 => ?_)
                · have hf := hft c1
                  refine lv_aload_n hx hb dX5_leafOf_114 rfl (lv_at hl 0 rfl) ?_
                  refine lv_ldc2 hx hb C.1.2.2.2.1 (C.1.2.2.2.2 _ q2062) dX5_leafOf_115 ?_
                  refine hm_ci C M hl.1 (As := [.long 121450625394034]) (rest := []) (hk_isWord l D dA o b hB 121450625394034 σ_103 hf) (n := 1) q2252 q2254 qs53 q140 q2255 (by decide +kernel) rfl ⟨Nat.le_of_ble_eq_true rfl, Nat.le_of_ble_eq_true rfl⟩ rfl (Nat.le_of_ble_eq_true rfl) dX5_leafOf_118 (fun r_118 σ_118 H locs hf M => ?_)
                  obtain ⟨hft, hff⟩ := hf
                  refine lv_if_eq (tgt := 129) hx hb dX5_leafOf_121 (by decide) (fun c1 => ?_) (fun c1 => ?_)
                  · have hf := hft c1
                    refine lv_iconst (v := (-1)) hx hb dX5_leafOf_129 rfl ?_
                    exact hret _ _ _ _ _ _ dX5_leafOf_130 M hf
                  · have hf := hff c1
                    refine lv_bipush (v := 8) hx hb dX5_leafOf_124 rfl ?_
                    refine lv_goto (tgt := 130) hx hb dX5_leafOf_126 (by decide) ?_
                    exact hret _ _ _ _ _ _ dX5_leafOf_130 M hf
                · have hf := hff c1
                  refine lv_bipush (v := 7) hx hb dX5_leafOf_109 rfl ?_
                  refine lv_goto (tgt := 130) hx hb dX5_leafOf_111 (by decide) ?_
                  exact hret _ _ _ _ _ _ dX5_leafOf_130 M hf
              · have hf := hff c1
                refine lv_bipush (v := 6) hx hb dX5_leafOf_94 rfl ?_
                refine lv_goto (tgt := 130) hx hb dX5_leafOf_96 (by decide) ?_
                exact hret _ _ _ _ _ _ dX5_leafOf_130 M hf
            · have hf := hff c1
              refine lv_iconst (v := 5) hx hb dX5_leafOf_80 rfl ?_
              refine lv_goto (tgt := 130) hx hb dX5_leafOf_81 (by decide) ?_
              exact hret _ _ _ _ _ _ dX5_leafOf_130 M hf
          · have hf := hff c1
            refine lv_iconst (v := 4) hx hb dX5_leafOf_66 rfl ?_
            refine lv_goto (tgt := 130) hx hb dX5_leafOf_67 (by decide) ?_
            exact hret _ _ _ _ _ _ dX5_leafOf_130 M hf
        · have hf := hff c1
          refine lv_iconst (v := 3) hx hb dX5_leafOf_52 rfl ?_
          refine lv_goto (tgt := 130) hx hb dX5_leafOf_53 (by decide) ?_
          exact hret _ _ _ _ _ _ dX5_leafOf_130 M hf
      · have hf := hff c1
        refine lv_iconst (v := 2) hx hb dX5_leafOf_38 rfl ?_
        refine lv_goto (tgt := 130) hx hb dX5_leafOf_39 (by decide) ?_
        exact hret _ _ _ _ _ _ dX5_leafOf_130 M hf
    · have hf := hff c1
      refine lv_iconst (v := 1) hx hb dX5_leafOf_24 rfl ?_
      refine lv_goto (tgt := 130) hx hb dX5_leafOf_25 (by decide) ?_
      exact hret _ _ _ _ _ _ dX5_leafOf_130 M hf
  · have hf := hff c1
    refine lv_iconst (v := 0) hx hb dX5_leafOf_10 rfl ?_
    refine lv_goto (tgt := 130) hx hb dX5_leafOf_11 (by decide) ?_
    exact hret _ _ _ _ _ _ dX5_leafOf_130 M hf
def hw_operand_b84 (v1_84 : Int32) (σ84 : hm_S) (Q : Int32 → hm_S → Prop) : Prop := (v1_84 = 0 → vp_in (hm_gI σ84 45) 45 ∧ (Q 1 (hm_sI (hm_sI (hm_sA σ84 42 (hm_gI σ84 45) 23) 45 ((hm_gI (hm_sA σ84 42 (hm_gI σ84 45) 23) 45) + 1)) 46 ((hm_gI (hm_sI (hm_sA σ84 42 (hm_gI σ84 45) 23) 45 ((hm_gI (hm_sA σ84 42 (hm_gI σ84 45) 23) 45) + 1)) 46) + 1)))) ∧ (¬ v1_84 = 0 → vp_in (hm_gI σ84 45) 45 ∧ (Q 1 (hm_sI (hm_sI (hm_sA σ84 42 (hm_gI σ84 45) 20) 45 ((hm_gI (hm_sA σ84 42 (hm_gI σ84 45) 20) 45) + 1)) 46 ((hm_gI (hm_sI (hm_sA σ84 42 (hm_gI σ84 45) 20) 45 ((hm_gI (hm_sA σ84 42 (hm_gI σ84 45) 20) 45) + 1)) 46) + 1))))
def hw_operand_b38 (v1_38 : Int32) (v2_38 : Int32) (v3_38 : Int32) (σ38 : hm_S) (Q : Int32 → hm_S → Prop) : Prop := ((hm_gI σ38 44) = 20 → hw_bad 4 σ38 (fun r_58 σ_58 => (hb_B r_58 ∧ Q r_58 σ_58))) ∧ (¬ (hm_gI σ38 44) = 20 → ((hm_gI σ38 46) ≤ 8 → hw_next  (hm_sI σ38 44 ((hm_gI σ38 44) + 1)) (fun σ_73 => ((¬ v1_38 = 0 → hw_operand_b84  v1_38 σ_73 Q) ∧ (v1_38 = 0 → (v2_38 = 0 → (3 ≤ v3_38 → (5 ≤ v3_38 → (¬ (hm_gI (hm_sI σ_73 47 1) 11) = 3 → hw_bad 1 (hm_sI σ_73 47 1) (fun r_210 σ_210 => (hb_B r_210 ∧ Q r_210 σ_210))) ∧ ((hm_gI (hm_sI σ_73 47 1) 11) = 3 → ((hm_gI (hm_sI σ_73 47 1) 14) < 60 → hw_bad 1 (hm_sI σ_73 47 1) (fun r_210 σ_210 => (hb_B r_210 ∧ Q r_210 σ_210))) ∧ (¬ (hm_gI (hm_sI σ_73 47 1) 14) < 60 → ((hm_gI (hm_sI σ_73 47 1) 14) ≤ 62 → hw_next  (hm_sI σ_73 47 1) (fun σ_221 => (((hm_gI σ_221 11) = 2 → hw_code v3_38 (hm_gI (hm_sI σ_73 47 1) 14) (hm_gI σ_221 14) σ_221 (fun σ_246 => (hw_next  σ_246 (fun σ_250 => (Q 1 σ_250))))) ∧ (¬ (hm_gI σ_221 11) = 2 → hw_bad 1 σ_221 (fun r_234 σ_234 => (hb_B r_234 ∧ Q r_234 σ_234)))))) ∧ (¬ (hm_gI (hm_sI σ_73 47 1) 14) ≤ 62 → hw_bad 1 (hm_sI σ_73 47 1) (fun r_210 σ_210 => (hb_B r_210 ∧ Q r_210 σ_210)))))) ∧ (¬ 5 ≤ v3_38 → vp_in 0 346 ∧ (hw_looksAt 0 (hm_gA (hm_sI σ_73 47 1) 6 0) (hm_sI σ_73 47 1) (fun r_158 σ_158 => ((¬ r_158 = 0 → hw_code v3_38 0 (hm_gI σ_158 18) σ_158 (fun σ_173 => (hw_next  σ_173 (fun σ_177 => (Q 1 σ_177))))) ∧ (r_158 = 0 → Q 0 σ_158)))))) ∧ (¬ 3 ≤ v3_38 → hw_code v3_38 0 0 (hm_sI σ_73 47 1) (fun σ_140 => (Q 1 σ_140)))) ∧ (¬ v2_38 = 0 → hw_operand_b84  v1_38 σ_73 Q))))) ∧ (¬ (hm_gI σ38 46) ≤ 8 → hw_bad 4 σ38 (fun r_58 σ_58 => (hb_B r_58 ∧ Q r_58 σ_58))))
def hw_operand  (σ : hm_S) (Q : Int32 → hm_S → Prop) : Prop := hw_isWord 7237492 σ (fun r_4 σ_4 => (hw_isSign 40 σ_4 (fun r_11 σ_11 => (hw_leafOf  σ_11 (fun r_16 σ_16 => ((¬ r_4 = 0 → hw_operand_b38  r_4 r_11 r_16 σ_16 Q) ∧ (r_4 = 0 → (¬ r_11 = 0 → hw_operand_b38  r_4 r_11 r_16 σ_16 Q) ∧ (r_11 = 0 → (0 ≤ r_16 → hw_operand_b38  r_4 r_11 r_16 σ_16 Q) ∧ (¬ 0 ≤ r_16 → hw_bad 1 σ_16 (fun r_34 σ_34 => (hb_B r_34 ∧ Q r_34 σ_34)))))))))))
set_option maxHeartbeats 4000000 in
set_option maxRecDepth 100000 in
theorem hk_operand (l : Launch) (D : va_G) (dA : Nat → ClassId) (o : Nat) (b : Nat → Nat) (hB : hm_D dA o b)  (σ : hm_S) {Q : Int32 → hm_S → Prop} (hf : hw_operand  σ Q) : Met l yX5_operand (ws_ yX5_operand cX5_operand 5 (some .boolean)) (hb_R 2 45) (va_Pc [.ref o] (hm_U D dA o b σ)) (va_Qi Q (hm_U D dA o b) (hm_A o b)) 0 0 (hm_A o b) := by
  refine hm_Mz hB (LV := [(0, .ref o)]) (by decide) rfl (Nat.le_of_ble_eq_true rfl) (fun p e s m args below meth c ls QQ C M hl hret => ?_)
  have hx := C.1.1
  have hb := C.1.2.1
  have B84 : ∀ (v1_84 : Int32) (σ84 : hm_S) (H : Heap) (locs : List Loc) (ls : Array Slot), hm_M D dA o b s.heap σ84 H locs → lv_has ls 5 [(0, .ref o), (1, .int v1_84)] → hw_operand_b84  v1_84 σ84 Q → W p l e (hb_R 2 45) s m args below meth c H locs 0 0 QQ (F0 m 84 ls []) := by
    intro v1_84 σ84 H locs ls M hl hf
    refine lv_aload_n hx hb dX5_operand_84 rfl (lv_at hl 0 rfl) ?_
    refine hm_get C M 42 (by decide) q2109 (v := .ref (b 42)) rfl dX5_operand_85 ?_
    refine lv_aload_n hx hb dX5_operand_88 rfl (lv_at hl 0 rfl) ?_
    refine hm_get C M 45 (by decide) q2112 (v := .int (hm_gI σ84 45)) rfl dX5_operand_89 ?_
    refine lv_iload_n hx hb dX5_operand_92 rfl (lv_at hl 1 rfl) ?_
    obtain ⟨hft, hff⟩ := hf
    refine lv_if_eq (tgt := 101) hx hb dX5_operand_93 (by decide) (fun c1 => ?_) (fun c1 => ?_)
    · have hf := hft c1
      refine lv_bipush (v := 23) hx hb dX5_operand_101 rfl ?_
      obtain ⟨g1, hf⟩ := hf
      refine hm_ast42 C M g1 dX5_operand_103 (fun H locs M => ?_)
      refine lv_aload_n hx hb dX5_operand_104 rfl (lv_at hl 0 rfl) ?_
      refine lv_dup hx hb dX5_operand_105 rfl ?_
      refine hm_get C M 45 (by decide) q2112 (v := .int (hm_gI (hm_sA σ84 42 (hm_gI σ84 45) 23) 45)) rfl dX5_operand_106 ?_
      refine lv_iconst (v := 1) hx hb dX5_operand_109 rfl ?_
      refine lv_iadd hx hb dX5_operand_110 ?_
      refine hm_put45 C M q2112 dX5_operand_111 (fun H locs M => ?_)
      refine lv_aload_n hx hb dX5_operand_114 rfl (lv_at hl 0 rfl) ?_
      refine lv_dup hx hb dX5_operand_115 rfl ?_
      refine hm_get C M 46 (by decide) q2113 (v := .int (hm_gI (hm_sI (hm_sA σ84 42 (hm_gI σ84 45) 23) 45 ((hm_gI (hm_sA σ84 42 (hm_gI σ84 45) 23) 45) + 1)) 46)) rfl dX5_operand_116 ?_
      refine lv_iconst (v := 1) hx hb dX5_operand_119 rfl ?_
      refine lv_iadd hx hb dX5_operand_120 ?_
      refine hm_put46 C M q2113 dX5_operand_121 (fun H locs M => ?_)
      refine lv_iconst (v := 1) hx hb dX5_operand_124 rfl ?_
      exact hret _ _ _ _ _ _ dX5_operand_125 M hb_B1 hf
    · have hf := hff c1
      refine lv_bipush (v := 20) hx hb dX5_operand_96 rfl ?_
      refine lv_goto (tgt := 103) hx hb dX5_operand_98 (by decide) ?_
      obtain ⟨g1, hf⟩ := hf
      refine hm_ast42 C M g1 dX5_operand_103 (fun H locs M => ?_)
      refine lv_aload_n hx hb dX5_operand_104 rfl (lv_at hl 0 rfl) ?_
      refine lv_dup hx hb dX5_operand_105 rfl ?_
      refine hm_get C M 45 (by decide) q2112 (v := .int (hm_gI (hm_sA σ84 42 (hm_gI σ84 45) 20) 45)) rfl dX5_operand_106 ?_
      refine lv_iconst (v := 1) hx hb dX5_operand_109 rfl ?_
      refine lv_iadd hx hb dX5_operand_110 ?_
      refine hm_put45 C M q2112 dX5_operand_111 (fun H locs M => ?_)
      refine lv_aload_n hx hb dX5_operand_114 rfl (lv_at hl 0 rfl) ?_
      refine lv_dup hx hb dX5_operand_115 rfl ?_
      refine hm_get C M 46 (by decide) q2113 (v := .int (hm_gI (hm_sI (hm_sA σ84 42 (hm_gI σ84 45) 20) 45 ((hm_gI (hm_sA σ84 42 (hm_gI σ84 45) 20) 45) + 1)) 46)) rfl dX5_operand_116 ?_
      refine lv_iconst (v := 1) hx hb dX5_operand_119 rfl ?_
      refine lv_iadd hx hb dX5_operand_120 ?_
      refine hm_put46 C M q2113 dX5_operand_121 (fun H locs M => ?_)
      refine lv_iconst (v := 1) hx hb dX5_operand_124 rfl ?_
      exact hret _ _ _ _ _ _ dX5_operand_125 M hb_B1 hf
  have B38 : ∀ (v1_38 : Int32) (v2_38 : Int32) (v3_38 : Int32) (σ38 : hm_S) (H : Heap) (locs : List Loc) (ls : Array Slot), hm_M D dA o b s.heap σ38 H locs → lv_has ls 5 [(0, .ref o), (1, .int v1_38), (2, .int v2_38), (3, .int v3_38)] → hw_operand_b38  v1_38 v2_38 v3_38 σ38 Q → W p l e (hb_R 2 45) s m args below meth c H locs 0 0 QQ (F0 m 38 ls []) := by
    intro v1_38 v2_38 v3_38 σ38 H locs ls M hl hf
    refine lv_aload_n hx hb dX5_operand_38 rfl (lv_at hl 0 rfl) ?_
    refine hm_get C M 44 (by decide) q2111 (v := .int (hm_gI σ38 44)) rfl dX5_operand_39 ?_
    refine lv_bipush (v := 20) hx hb dX5_operand_42 rfl ?_
    obtain ⟨hft, hff⟩ := hf
    refine lv_icmp_eq (tgt := 56) hx hb dX5_operand_44 (by decide) (fun c1 => ?_) (fun c1 => ?_)
    · have hf := hft c1
      refine lv_aload_n hx hb dX5_operand_56 rfl (lv_at hl 0 rfl) ?_
      refine lv_iconst (v := 4) hx hb dX5_operand_57 rfl ?_
      refine hm_ci C M hl.1 (As := [.int 4]) (rest := []) (hk_bad l D dA o b hB 4 σ38 hf) (n := 1) q2260 q2262 qs55 q140 q2263 (by decide +kernel) rfl ⟨Nat.le_of_ble_eq_true rfl, Nat.le_of_ble_eq_true rfl⟩ rfl (Nat.le_of_ble_eq_true rfl) dX5_operand_58 (fun r_58 σ_58 H locs hf M => ?_)
      exact hret _ _ _ _ _ _ dX5_operand_61 M hf.1 hf.2
    · have hf := hff c1
      refine lv_aload_n hx hb dX5_operand_47 rfl (lv_at hl 0 rfl) ?_
      refine hm_get C M 46 (by decide) q2113 (v := .int (hm_gI σ38 46)) rfl dX5_operand_48 ?_
      refine lv_bipush (v := 8) hx hb dX5_operand_51 rfl ?_
      obtain ⟨hft, hff⟩ := hf
      refine lv_icmp_le (tgt := 62) hx hb dX5_operand_53 (by decide) (fun c1 => ?_) (fun c1 => ?_)
      · have hf := hft c1
        refine lv_aload_n hx hb dX5_operand_62 rfl (lv_at hl 0 rfl) ?_
        refine lv_dup hx hb dX5_operand_63 rfl ?_
        refine hm_get C M 44 (by decide) q2111 (v := .int (hm_gI σ38 44)) rfl dX5_operand_64 ?_
        refine lv_iconst (v := 1) hx hb dX5_operand_67 rfl ?_
        refine lv_iadd hx hb dX5_operand_68 ?_
        refine hm_put44 C M q2111 dX5_operand_69 (fun H locs M => ?_)
        refine lv_aload_n hx hb dX5_operand_72 rfl (lv_at hl 0 rfl) ?_
        refine hm_cv C M hl.1 (As := []) (rest := []) (hk_next l D dA o b hB  (hm_sI σ38 44 ((hm_gI σ38 44) + 1)) hf) (n := 0) q2234 q2236 qs50 q140 q2237 (by decide +kernel) rfl ⟨Nat.le_of_ble_eq_true rfl, Nat.le_of_ble_eq_true rfl⟩ rfl (Nat.le_of_ble_eq_true rfl) dX5_operand_73 (fun σ_73 H locs hf M => ?_)
        refine lv_iload_n hx hb dX5_operand_76 rfl (lv_at hl 1 rfl) ?_
        obtain ⟨hft, hff⟩ := hf
        refine lv_if_ne (tgt := 84) hx hb dX5_operand_77 (by decide) (fun c1 => ?_) (fun c1 => ?_)
        · have hf := hft c1
          exact B84 v1_38 σ_73 _ _ _ M (lv_sub hl [0, 1] rfl) hf
        · have hf := hff c1
          refine lv_iload_n hx hb dX5_operand_80 rfl (lv_at hl 2 rfl) ?_
          obtain ⟨hft, hff⟩ := hf
          refine lv_if_eq (tgt := 126) hx hb dX5_operand_81 (by decide) (fun c1 => ?_) (fun c1 => ?_)
          · have hf := hft c1
            refine lv_aload_n hx hb dX5_operand_126 rfl (lv_at hl 0 rfl) ?_
            refine lv_iconst (v := 1) hx hb dX5_operand_127 rfl ?_
            refine hm_put47 C M hb_B1 q2114 dX5_operand_128 (fun H locs M => ?_)
            refine lv_iload_n hx hb dX5_operand_131 rfl (lv_at hl 3 rfl) ?_
            refine lv_iconst (v := 3) hx hb dX5_operand_132 rfl ?_
            obtain ⟨hft, hff⟩ := hf
            refine lv_icmp_ge (tgt := 145) hx hb dX5_operand_133 (by decide) (fun c1 => ?_) (fun c1 => ?_)
            · have hf := hft c1
              refine lv_iload_n hx hb dX5_operand_145 rfl (lv_at hl 3 rfl) ?_
              refine lv_iconst (v := 5) hx hb dX5_operand_146 rfl ?_
              obtain ⟨hft, hff⟩ := hf
              refine lv_icmp_ge (tgt := 182) hx hb dX5_operand_147 (by decide) (fun c1 => ?_) (fun c1 => ?_)
              · have hf := hft c1
                refine lv_aload_n hx hb dX5_operand_182 rfl (lv_at hl 0 rfl) ?_
                refine hm_get C M 11 (by decide) q2078 (v := .int (hm_gI (hm_sI σ_73 47 1) 11)) rfl dX5_operand_183 ?_
                refine lv_iconst (v := 3) hx hb dX5_operand_186 rfl ?_
                obtain ⟨hft, hff⟩ := hf
                refine lv_icmp_ne (tgt := 208) hx hb dX5_operand_187 (by decide) (fun c1 => ?_) (fun c1 => ?_)
                · have hf := hft c1
                  refine lv_aload_n hx hb dX5_operand_208 rfl (lv_at hl 0 rfl) ?_
                  refine lv_iconst (v := 1) hx hb dX5_operand_209 rfl ?_
                  refine hm_ci C M hl.1 (As := [.int 1]) (rest := []) (hk_bad l D dA o b hB 1 (hm_sI σ_73 47 1) hf) (n := 1) q2260 q2262 qs55 q140 q2263 (by decide +kernel) rfl ⟨Nat.le_of_ble_eq_true rfl, Nat.le_of_ble_eq_true rfl⟩ rfl (Nat.le_of_ble_eq_true rfl) dX5_operand_210 (fun r_210 σ_210 H locs hf M => ?_)
                  exact hret _ _ _ _ _ _ dX5_operand_213 M hf.1 hf.2
                · have hf := hff c1
                  refine lv_aload_n hx hb dX5_operand_190 rfl (lv_at hl 0 rfl) ?_
                  refine hm_get C M 14 (by decide) q2081 (v := .int (hm_gI (hm_sI σ_73 47 1) 14)) rfl dX5_operand_191 ?_
                  refine lv_bipush (v := 60) hx hb dX5_operand_194 rfl ?_
                  obtain ⟨hft, hff⟩ := hf
                  refine lv_icmp_lt (tgt := 208) hx hb dX5_operand_196 (by decide) (fun c1 => ?_) (fun c1 => ?_)
                  · have hf := hft c1
                    refine lv_aload_n hx hb dX5_operand_208 rfl (lv_at hl 0 rfl) ?_
                    refine lv_iconst (v := 1) hx hb dX5_operand_209 rfl ?_
                    refine hm_ci C M hl.1 (As := [.int 1]) (rest := []) (hk_bad l D dA o b hB 1 (hm_sI σ_73 47 1) hf) (n := 1) q2260 q2262 qs55 q140 q2263 (by decide +kernel) rfl ⟨Nat.le_of_ble_eq_true rfl, Nat.le_of_ble_eq_true rfl⟩ rfl (Nat.le_of_ble_eq_true rfl) dX5_operand_210 (fun r_210 σ_210 H locs hf M => ?_)
                    exact hret _ _ _ _ _ _ dX5_operand_213 M hf.1 hf.2
                  · have hf := hff c1
                    refine lv_aload_n hx hb dX5_operand_199 rfl (lv_at hl 0 rfl) ?_
                    refine hm_get C M 14 (by decide) q2081 (v := .int (hm_gI (hm_sI σ_73 47 1) 14)) rfl dX5_operand_200 ?_
                    refine lv_bipush (v := 62) hx hb dX5_operand_203 rfl ?_
                    obtain ⟨hft, hff⟩ := hf
                    refine lv_icmp_le (tgt := 214) hx hb dX5_operand_205 (by decide) (fun c1 => ?_) (fun c1 => ?_)
                    · have hf := hft c1
                      refine lv_aload_n hx hb dX5_operand_214 rfl (lv_at hl 0 rfl) ?_
                      refine hm_get C M 14 (by decide) q2081 (v := .int (hm_gI (hm_sI σ_73 47 1) 14)) rfl dX5_operand_215 ?_
                      refine lv_istore (lv' := [(4, .int (hm_gI (hm_sI σ_73 47 1) 14)), (0, .ref o), (1, .int v1_38), (2, .int v2_38), (3, .int v3_38)]) hx hb dX5_operand_218 hl (by decide) rfl (fun ls hl => ?_)
                      refine lv_aload_n hx hb dX5_operand_220 rfl (lv_at hl 1 rfl) ?_
                      refine hm_cv C M hl.1 (As := []) (rest := []) (hk_next l D dA o b hB  (hm_sI σ_73 47 1) hf) (n := 0) q2234 q2236 qs50 q140 q2237 (by decide +kernel) rfl ⟨Nat.le_of_ble_eq_true rfl, Nat.le_of_ble_eq_true rfl⟩ rfl (Nat.le_of_ble_eq_true rfl) dX5_operand_221 (fun σ_221 H locs hf M => ?_)
                      refine lv_aload_n hx hb dX5_operand_224 rfl (lv_at hl 1 rfl) ?_
                      refine hm_get C M 11 (by decide) q2078 (v := .int (hm_gI σ_221 11)) rfl dX5_operand_225 ?_
                      refine lv_iconst (v := 2) hx hb dX5_operand_228 rfl ?_
                      obtain ⟨hft, hff⟩ := hf
                      refine lv_icmp_eq (tgt := 238) hx hb dX5_operand_229 (by decide) (fun c1 => ?_) (fun c1 => ?_)
                      · have hf := hft c1
                        refine lv_aload_n hx hb dX5_operand_238 rfl (lv_at hl 1 rfl) ?_
                        refine lv_iload_n hx hb dX5_operand_239 rfl (lv_at hl 4 rfl) ?_
                        refine lv_iload hx hb dX5_operand_240 (lv_at hl 0 rfl) ?_
                        refine lv_aload_n hx hb dX5_operand_242 rfl (lv_at hl 1 rfl) ?_
                        refine hm_get C M 14 (by decide) q2081 (v := .int (hm_gI σ_221 14)) rfl dX5_operand_243 ?_
                        refine hm_cv C M hl.1 (As := [.int v3_38, .int (hm_gI (hm_sI σ_73 47 1) 14), .int (hm_gI σ_221 14)]) (rest := []) (hk_code l D dA o b hB v3_38 (hm_gI (hm_sI σ_73 47 1) 14) (hm_gI σ_221 14) σ_221 hf) (n := 3) q2668 q2670 qs117 q140 q2671 (by decide +kernel) rfl ⟨Nat.le_of_ble_eq_true rfl, Nat.le_of_ble_eq_true rfl⟩ rfl (Nat.le_of_ble_eq_true rfl) dX5_operand_246 (fun σ_246 H locs hf M => ?_)
                        refine lv_aload_n hx hb dX5_operand_249 rfl (lv_at hl 1 rfl) ?_
                        refine hm_cv C M hl.1 (As := []) (rest := []) (hk_next l D dA o b hB  σ_246 hf) (n := 0) q2234 q2236 qs50 q140 q2237 (by decide +kernel) rfl ⟨Nat.le_of_ble_eq_true rfl, Nat.le_of_ble_eq_true rfl⟩ rfl (Nat.le_of_ble_eq_true rfl) dX5_operand_250 (fun σ_250 H locs hf M => ?_)
                        refine lv_iconst (v := 1) hx hb dX5_operand_253 rfl ?_
                        exact hret _ _ _ _ _ _ dX5_operand_254 M hb_B1 hf
                      · have hf := hff c1
                        refine lv_aload_n hx hb dX5_operand_232 rfl (lv_at hl 1 rfl) ?_
                        refine lv_iconst (v := 1) hx hb dX5_operand_233 rfl ?_
                        refine hm_ci C M hl.1 (As := [.int 1]) (rest := []) (hk_bad l D dA o b hB 1 σ_221 hf) (n := 1) q2260 q2262 qs55 q140 q2263 (by decide +kernel) rfl ⟨Nat.le_of_ble_eq_true rfl, Nat.le_of_ble_eq_true rfl⟩ rfl (Nat.le_of_ble_eq_true rfl) dX5_operand_234 (fun r_234 σ_234 H locs hf M => ?_)
                        exact hret _ _ _ _ _ _ dX5_operand_237 M hf.1 hf.2
                    · have hf := hff c1
                      refine lv_aload_n hx hb dX5_operand_208 rfl (lv_at hl 0 rfl) ?_
                      refine lv_iconst (v := 1) hx hb dX5_operand_209 rfl ?_
                      refine hm_ci C M hl.1 (As := [.int 1]) (rest := []) (hk_bad l D dA o b hB 1 (hm_sI σ_73 47 1) hf) (n := 1) q2260 q2262 qs55 q140 q2263 (by decide +kernel) rfl ⟨Nat.le_of_ble_eq_true rfl, Nat.le_of_ble_eq_true rfl⟩ rfl (Nat.le_of_ble_eq_true rfl) dX5_operand_210 (fun r_210 σ_210 H locs hf M => ?_)
                      exact hret _ _ _ _ _ _ dX5_operand_213 M hf.1 hf.2
              · have hf := hff c1
                refine lv_aload_n hx hb dX5_operand_150 rfl (lv_at hl 0 rfl) ?_
                refine lv_iconst (v := 0) hx hb dX5_operand_151 rfl ?_
                refine lv_aload_n hx hb dX5_operand_152 rfl (lv_at hl 0 rfl) ?_
                refine hm_get C M 6 (by decide) q2073 (v := .ref (b 6)) rfl dX5_operand_153 ?_
                refine lv_iconst (v := 0) hx hb dX5_operand_156 rfl ?_
                obtain ⟨g1, hf⟩ := hf
                refine hm_ald6 C M g1 dX5_operand_157 ?_
                refine hm_ci C M hl.1 (As := [.int 0, .int (hm_gA (hm_sI σ_73 47 1) 6 0)]) (rest := []) (hk_looksAt l D dA o b hB 0 (hm_gA (hm_sI σ_73 47 1) 6 0) (hm_sI σ_73 47 1) hf) (n := 2) q2287 q2289 qs61 q140 q2290 (by decide +kernel) rfl ⟨Nat.le_of_ble_eq_true rfl, Nat.le_of_ble_eq_true rfl⟩ rfl (Nat.le_of_ble_eq_true rfl) dX5_operand_158 (fun r_158 σ_158 H locs hf M => ?_)
                obtain ⟨hft, hff⟩ := hf
                refine lv_if_ne (tgt := 166) hx hb dX5_operand_161 (by decide) (fun c1 => ?_) (fun c1 => ?_)
                · have hf := hft c1
                  refine lv_aload_n hx hb dX5_operand_166 rfl (lv_at hl 0 rfl) ?_
                  refine lv_iload_n hx hb dX5_operand_167 rfl (lv_at hl 3 rfl) ?_
                  refine lv_iconst (v := 0) hx hb dX5_operand_168 rfl ?_
                  refine lv_aload_n hx hb dX5_operand_169 rfl (lv_at hl 0 rfl) ?_
                  refine hm_get C M 18 (by decide) q2085 (v := .int (hm_gI σ_158 18)) rfl dX5_operand_170 ?_
                  refine hm_cv C M hl.1 (As := [.int v3_38, .int 0, .int (hm_gI σ_158 18)]) (rest := []) (hk_code l D dA o b hB v3_38 0 (hm_gI σ_158 18) σ_158 hf) (n := 3) q2668 q2670 qs117 q140 q2671 (by decide +kernel) rfl ⟨Nat.le_of_ble_eq_true rfl, Nat.le_of_ble_eq_true rfl⟩ rfl (Nat.le_of_ble_eq_true rfl) dX5_operand_173 (fun σ_173 H locs hf M => ?_)
                  refine lv_aload_n hx hb dX5_operand_176 rfl (lv_at hl 0 rfl) ?_
                  refine hm_cv C M hl.1 (As := []) (rest := []) (hk_next l D dA o b hB  σ_173 hf) (n := 0) q2234 q2236 qs50 q140 q2237 (by decide +kernel) rfl ⟨Nat.le_of_ble_eq_true rfl, Nat.le_of_ble_eq_true rfl⟩ rfl (Nat.le_of_ble_eq_true rfl) dX5_operand_177 (fun σ_177 H locs hf M => ?_)
                  refine lv_iconst (v := 1) hx hb dX5_operand_180 rfl ?_
                  exact hret _ _ _ _ _ _ dX5_operand_181 M hb_B1 hf
                · have hf := hff c1
                  refine lv_iconst (v := 0) hx hb dX5_operand_164 rfl ?_
                  exact hret _ _ _ _ _ _ dX5_operand_165 M hb_B0 hf
            · have hf := hff c1
              refine lv_aload_n hx hb dX5_operand_136 rfl (lv_at hl 0 rfl) ?_
              refine lv_iload_n hx hb dX5_operand_137 rfl (lv_at hl 3 rfl) ?_
              refine lv_iconst (v := 0) hx hb dX5_operand_138 rfl ?_
              refine lv_iconst (v := 0) hx hb dX5_operand_139 rfl ?_
              refine hm_cv C M hl.1 (As := [.int v3_38, .int 0, .int 0]) (rest := []) (hk_code l D dA o b hB v3_38 0 0 (hm_sI σ_73 47 1) hf) (n := 3) q2668 q2670 qs117 q140 q2671 (by decide +kernel) rfl ⟨Nat.le_of_ble_eq_true rfl, Nat.le_of_ble_eq_true rfl⟩ rfl (Nat.le_of_ble_eq_true rfl) dX5_operand_140 (fun σ_140 H locs hf M => ?_)
              refine lv_iconst (v := 1) hx hb dX5_operand_143 rfl ?_
              exact hret _ _ _ _ _ _ dX5_operand_144 M hb_B1 hf
          · have hf := hff c1
            exact B84 v1_38 σ_73 _ _ _ M (lv_sub hl [0, 1] rfl) hf
      · have hf := hff c1
        refine lv_aload_n hx hb dX5_operand_56 rfl (lv_at hl 0 rfl) ?_
        refine lv_iconst (v := 4) hx hb dX5_operand_57 rfl ?_
        refine hm_ci C M hl.1 (As := [.int 4]) (rest := []) (hk_bad l D dA o b hB 4 σ38 hf) (n := 1) q2260 q2262 qs55 q140 q2263 (by decide +kernel) rfl ⟨Nat.le_of_ble_eq_true rfl, Nat.le_of_ble_eq_true rfl⟩ rfl (Nat.le_of_ble_eq_true rfl) dX5_operand_58 (fun r_58 σ_58 H locs hf M => ?_)
        exact hret _ _ _ _ _ _ dX5_operand_61 M hf.1 hf.2
  refine lv_aload_n hx hb dX5_operand_0 rfl (lv_at hl 0 rfl) ?_
  refine lv_ldc2 hx hb C.1.2.2.2.1 (C.1.2.2.2.2 _ q2054) dX5_operand_1 ?_
  refine hm_ci C M hl.1 (As := [.long 7237492]) (rest := []) (hk_isWord l D dA o b hB 7237492 σ hf) (n := 1) q2252 q2254 qs53 q140 q2255 (by decide +kernel) rfl ⟨Nat.le_of_ble_eq_true rfl, Nat.le_of_ble_eq_true rfl⟩ rfl (Nat.le_of_ble_eq_true rfl) dX5_operand_4 (fun r_4 σ_4 H locs hf M => ?_)
  refine lv_istore_n (lv' := [(1, .int r_4), (0, .ref o)]) hx hb dX5_operand_7 rfl hl (by decide) rfl (fun ls hl => ?_)
  refine lv_aload_n hx hb dX5_operand_8 rfl (lv_at hl 1 rfl) ?_
  refine lv_bipush (v := 40) hx hb dX5_operand_9 rfl ?_
  refine hm_ci C M hl.1 (As := [.int 40]) (rest := []) (hk_isSign l D dA o b hB 40 σ_4 hf) (n := 1) q2321 q2323 qs68 q140 q2324 (by decide +kernel) rfl ⟨Nat.le_of_ble_eq_true rfl, Nat.le_of_ble_eq_true rfl⟩ rfl (Nat.le_of_ble_eq_true rfl) dX5_operand_11 (fun r_11 σ_11 H locs hf M => ?_)
  refine lv_istore_n (lv' := [(2, .int r_11), (1, .int r_4), (0, .ref o)]) hx hb dX5_operand_14 rfl hl (by decide) rfl (fun ls hl => ?_)
  refine lv_aload_n hx hb dX5_operand_15 rfl (lv_at hl 2 rfl) ?_
  refine hm_ci C M hl.1 (As := []) (rest := []) (hk_leafOf l D dA o b hB  σ_11 hf) (n := 0) q2684 q2686 qs121 q140 q2687 (by decide +kernel) rfl ⟨Nat.le_of_ble_eq_true rfl, Nat.le_of_ble_eq_true rfl⟩ rfl (Nat.le_of_ble_eq_true rfl) dX5_operand_16 (fun r_16 σ_16 H locs hf M => ?_)
  refine lv_istore_n (lv' := [(3, .int r_16), (2, .int r_11), (1, .int r_4), (0, .ref o)]) hx hb dX5_operand_19 rfl hl (by decide) rfl (fun ls hl => ?_)
  refine lv_iload_n hx hb dX5_operand_20 rfl (lv_at hl 2 rfl) ?_
  obtain ⟨hft, hff⟩ := hf
  refine lv_if_ne (tgt := 38) hx hb dX5_operand_21 (by decide) (fun c1 => ?_) (fun c1 => ?_)
  · have hf := hft c1
    exact B38 r_4 r_11 r_16 σ_16 _ _ _ M (lv_sub hl [3, 2, 1, 0] rfl) hf
  · have hf := hff c1
    refine lv_iload_n hx hb dX5_operand_24 rfl (lv_at hl 1 rfl) ?_
    obtain ⟨hft, hff⟩ := hf
    refine lv_if_ne (tgt := 38) hx hb dX5_operand_25 (by decide) (fun c1 => ?_) (fun c1 => ?_)
    · have hf := hft c1
      exact B38 r_4 r_11 r_16 σ_16 _ _ _ M (lv_sub hl [3, 2, 1, 0] rfl) hf
    · have hf := hff c1
      refine lv_iload_n hx hb dX5_operand_28 rfl (lv_at hl 0 rfl) ?_
      obtain ⟨hft, hff⟩ := hf
      refine lv_if_ge (tgt := 38) hx hb dX5_operand_29 (by decide) (fun c1 => ?_) (fun c1 => ?_)
      · have hf := hft c1
        exact B38 r_4 r_11 r_16 σ_16 _ _ _ M (lv_sub hl [3, 2, 1, 0] rfl) hf
      · have hf := hff c1
        refine lv_aload_n hx hb dX5_operand_32 rfl (lv_at hl 3 rfl) ?_
        refine lv_iconst (v := 1) hx hb dX5_operand_33 rfl ?_
        refine hm_ci C M hl.1 (As := [.int 1]) (rest := []) (hk_bad l D dA o b hB 1 σ_16 hf) (n := 1) q2260 q2262 qs55 q140 q2263 (by decide +kernel) rfl ⟨Nat.le_of_ble_eq_true rfl, Nat.le_of_ble_eq_true rfl⟩ rfl (Nat.le_of_ble_eq_true rfl) dX5_operand_34 (fun r_34 σ_34 H locs hf M => ?_)
        exact hret _ _ _ _ _ _ dX5_operand_37 M hf.1 hf.2
def hw_sentence_b146 : Nat → Int32 → hm_S → (Int32 → hm_S → Prop) → Prop
  | 0, _, _, _ => False
  | n146 + 1, v2_146, σ146, Q => ((3 * (hm_gI σ146 43)) ≤ v2_146 → Q (hm_gI σ146 44) σ146) ∧ (¬ (3 * (hm_gI σ146 43)) ≤ v2_146 → vp_in v2_146 160 ∧ (vp_in (166 + v2_146) 346 ∧ (hw_sentence_b146  n146 (v2_146 + 1) (hm_sA σ146 6 (166 + v2_146) (hm_gA σ146 8 v2_146)) Q)))
def hw_sentence_b101 (k48 : Int32 → hm_S → Prop) (v1_101 : Int32) (σ101 : hm_S) (Q : Int32 → hm_S → Prop) : Prop := ((hm_gI σ101 47) = 0 → hw_operand  σ101 (fun r_119 σ_119 => ((¬ r_119 = 0 → k48 v1_101 σ_119) ∧ (r_119 = 0 → Q ((-1) - (hm_gI σ_119 16)) σ_119)))) ∧ (¬ (hm_gI σ101 47) = 0 → hw_behind  σ101 (fun r_109 σ_109 => ((¬ r_109 = 0 → k48 v1_101 σ_109) ∧ (r_109 = 0 → Q ((-1) - (hm_gI σ_109 16)) σ_109))))
def hw_sentence_b48 : Nat → Int32 → hm_S → (Int32 → hm_S → Prop) → Prop
  | 0, _, _, _ => False
  | n48 + 1, v1_48, σ48, Q => (v1_48 = 0 → vp_in 165 346 ∧ (∃ n, hw_sentence_b146  n 0 (hm_sA σ48 6 165 (hm_gI σ48 43)) Q)) ∧ (¬ v1_48 = 0 → ((hm_gI σ48 47) = 0 → hw_sentence_b101 (fun (u0 : Int32) (τ : hm_S) => hw_sentence_b48  n48 u0 τ Q) v1_48 σ48 Q) ∧ (¬ (hm_gI σ48 47) = 0 → (¬ (hm_gI σ48 11) = 0 → hw_sentence_b101 (fun (u0 : Int32) (τ : hm_S) => hw_sentence_b48  n48 u0 τ Q) v1_48 σ48 Q) ∧ ((hm_gI σ48 11) = 0 → hw_nots  σ48 (fun σ_67 => (hw_joins 22 σ_67 (fun σ_73 => (((hm_gI σ_73 45) ≤ 0 → hw_sentence_b48  n48 0 σ_73 Q) ∧ (¬ (hm_gI σ_73 45) ≤ 0 → hw_bad 1 σ_73 (fun r_85 σ_85 => (Q ((-1) - (hm_gI σ_85 16)) σ_85))))))))))
def hw_sentence  (σ : hm_S) (Q : Int32 → hm_S → Prop) : Prop := hw_taken 200 (hm_sI σ 0 0) (fun σ_9 => (hw_next  (hm_sI (hm_sI (hm_sI (hm_sI (hm_sI (hm_sI σ_9 15 0) 43 0) 44 0) 45 0) 46 1) 47 0) (fun σ_43 => (∃ n, hw_sentence_b48  n 1 σ_43 Q))))
set_option maxHeartbeats 4000000 in
set_option maxRecDepth 100000 in
theorem hk_sentence (l : Launch) (D : va_G) (dA : Nat → ClassId) (o : Nat) (b : Nat → Nat) (hB : hm_D dA o b)  (σ : hm_S) {Q : Int32 → hm_S → Prop} (hf : hw_sentence  σ Q) : Met l yX5_sentence (ws_ yX5_sentence cX5_sentence 3 (some .int)) (hb_R 3 69) (va_Pc [.ref o] (hm_U D dA o b σ)) (va_Qi Q (hm_U D dA o b) (hm_A o b)) 0 0 (hm_A o b) := by
  refine hm_Mi hB (LV := [(0, .ref o)]) (by decide) rfl (Nat.le_of_ble_eq_true rfl) (fun p e s m args below meth c ls QQ C M hl hret => ?_)
  have hx := C.1.1
  have hb := C.1.2.1
  have B146 : ∀ (n146 : Nat) (v2_146 : Int32) (σ146 : hm_S) (H : Heap) (locs : List Loc) (ls : Array Slot), hm_M D dA o b s.heap σ146 H locs → lv_has ls 3 [(0, .ref o), (2, .int v2_146)] → hw_sentence_b146  n146 v2_146 σ146 Q → W p l e (hb_R 3 69) s m args below meth c H locs 0 0 QQ (F0 m 146 ls []) := by
    intro n146
    induction n146 with
    | zero => intro v2_146 σ146 H locs ls M hl hf; exact hf.elim
    | succ n146 ih146 =>
      intro v2_146 σ146 H locs ls M hl hf
      refine lv_iload_n hx hb dX5_sentence_146 rfl (lv_at hl 1 rfl) ?_
      refine lv_iconst (v := 3) hx hb dX5_sentence_147 rfl ?_
      refine lv_aload_n hx hb dX5_sentence_148 rfl (lv_at hl 0 rfl) ?_
      refine hm_get C M 43 (by decide) q2110 (v := .int (hm_gI σ146 43)) rfl dX5_sentence_149 ?_
      refine lv_imul hx hb dX5_sentence_152 ?_
      obtain ⟨hft, hff⟩ := hf
      refine lv_icmp_ge (tgt := 178) hx hb dX5_sentence_153 (by decide) (fun c1 => ?_) (fun c1 => ?_)
      · have hf := hft c1
        refine lv_aload_n hx hb dX5_sentence_178 rfl (lv_at hl 0 rfl) ?_
        refine hm_get C M 44 (by decide) q2111 (v := .int (hm_gI σ146 44)) rfl dX5_sentence_179 ?_
        exact hret _ _ _ _ _ _ dX5_sentence_182 M hf
      · have hf := hff c1
        refine lv_aload_n hx hb dX5_sentence_156 rfl (lv_at hl 0 rfl) ?_
        refine hm_get C M 6 (by decide) q2073 (v := .ref (b 6)) rfl dX5_sentence_157 ?_
        refine lv_sipush (v := 166) hx hb dX5_sentence_160 rfl ?_
        refine lv_iload_n hx hb dX5_sentence_163 rfl (lv_at hl 1 rfl) ?_
        refine lv_iadd hx hb dX5_sentence_164 ?_
        refine lv_aload_n hx hb dX5_sentence_165 rfl (lv_at hl 0 rfl) ?_
        refine hm_get C M 8 (by decide) q2075 (v := .ref (b 8)) rfl dX5_sentence_166 ?_
        refine lv_iload_n hx hb dX5_sentence_169 rfl (lv_at hl 1 rfl) ?_
        obtain ⟨g1, hf⟩ := hf
        refine hm_ald8 C M g1 dX5_sentence_170 ?_
        obtain ⟨g1, hf⟩ := hf
        refine hm_ast6 C M g1 dX5_sentence_171 (fun H locs M => ?_)
        refine lv_iinc (v := v2_146 + 1) (lv' := [(2, .int (v2_146 + 1)), (0, .ref o)]) hx hb dX5_sentence_172 hl (k := 1) rfl rfl (by decide) rfl (fun ls hl => ?_)
        refine lv_goto (tgt := 146) hx hb dX5_sentence_175 (by decide) ?_
        exact ih146 (v2_146 + 1) (hm_sA σ146 6 (166 + v2_146) (hm_gA σ146 8 v2_146)) _ _ _ M (lv_sub hl [1, 0] rfl) hf
  have B48 : ∀ (n48 : Nat) (v1_48 : Int32) (σ48 : hm_S) (H : Heap) (locs : List Loc) (ls : Array Slot), hm_M D dA o b s.heap σ48 H locs → lv_has ls 3 [(0, .ref o), (1, .int v1_48)] → hw_sentence_b48  n48 v1_48 σ48 Q → W p l e (hb_R 3 69) s m args below meth c H locs 0 0 QQ (F0 m 48 ls []) := by
    intro n48
    induction n48 with
    | zero => intro v1_48 σ48 H locs ls M hl hf; exact hf.elim
    | succ n48 ih48 =>
      have B101 : ∀ (v1_101 : Int32) (σ101 : hm_S) (H : Heap) (locs : List Loc) (ls : Array Slot), hm_M D dA o b s.heap σ101 H locs → lv_has ls 3 [(0, .ref o), (1, .int v1_101)] → hw_sentence_b101 (fun (u0 : Int32) (τ : hm_S) => hw_sentence_b48  n48 u0 τ Q) v1_101 σ101 Q → W p l e (hb_R 3 69) s m args below meth c H locs 0 0 QQ (F0 m 101 ls []) := by
        intro v1_101 σ101 H locs ls M hl hf
        refine lv_aload_n hx hb dX5_sentence_101 rfl (lv_at hl 0 rfl) ?_
        refine hm_get C M 47 (by decide) q2114 (v := .int (hm_gI σ101 47)) rfl dX5_sentence_102 ?_
        obtain ⟨hft, hff⟩ := hf
        refine lv_if_eq (tgt := 118) hx hb dX5_sentence_105 (by decide) (fun c1 => ?_) (fun c1 => ?_)
        · have hf := hft c1
          refine lv_aload_n hx hb dX5_sentence_118 rfl (lv_at hl 0 rfl) ?_
          refine hm_ci C M hl.1 (As := []) (rest := []) (hk_operand l D dA o b hB  σ101 hf) (n := 0) q2680 q2682 qs120 q140 q2683 (by decide +kernel) rfl ⟨Nat.le_of_ble_eq_true rfl, Nat.le_of_ble_eq_true rfl⟩ rfl (Nat.le_of_ble_eq_true rfl) dX5_sentence_119 (fun r_119 σ_119 H locs hf M => ?_)
          obtain ⟨hft, hff⟩ := hf
          refine lv_if_ne (tgt := 48) hx hb dX5_sentence_122 (by decide) (fun c1 => ?_) (fun c1 => ?_)
          · have hf := hft c1
            exact ih48 v1_101 σ_119 _ _ _ M (lv_sub hl [0, 1] rfl) hf
          · have hf := hff c1
            refine lv_iconst (v := (-1)) hx hb dX5_sentence_125 rfl ?_
            refine lv_aload_n hx hb dX5_sentence_126 rfl (lv_at hl 0 rfl) ?_
            refine hm_get C M 16 (by decide) q2083 (v := .int (hm_gI σ_119 16)) rfl dX5_sentence_127 ?_
            refine lv_isub hx hb dX5_sentence_130 ?_
            exact hret _ _ _ _ _ _ dX5_sentence_131 M hf
        · have hf := hff c1
          refine lv_aload_n hx hb dX5_sentence_108 rfl (lv_at hl 0 rfl) ?_
          refine hm_ci C M hl.1 (As := []) (rest := []) (hk_behind l D dA o b hB  σ101 hf) (n := 0) q2676 q2678 qs119 q140 q2679 (by decide +kernel) rfl ⟨Nat.le_of_ble_eq_true rfl, Nat.le_of_ble_eq_true rfl⟩ rfl (Nat.le_of_ble_eq_true rfl) dX5_sentence_109 (fun r_109 σ_109 H locs hf M => ?_)
          obtain ⟨hft, hff⟩ := hf
          refine lv_if_ne (tgt := 48) hx hb dX5_sentence_112 (by decide) (fun c1 => ?_) (fun c1 => ?_)
          · have hf := hft c1
            exact ih48 v1_101 σ_109 _ _ _ M (lv_sub hl [0, 1] rfl) hf
          · have hf := hff c1
            refine lv_goto (tgt := 125) hx hb dX5_sentence_115 (by decide) ?_
            refine lv_iconst (v := (-1)) hx hb dX5_sentence_125 rfl ?_
            refine lv_aload_n hx hb dX5_sentence_126 rfl (lv_at hl 0 rfl) ?_
            refine hm_get C M 16 (by decide) q2083 (v := .int (hm_gI σ_109 16)) rfl dX5_sentence_127 ?_
            refine lv_isub hx hb dX5_sentence_130 ?_
            exact hret _ _ _ _ _ _ dX5_sentence_131 M hf
      intro v1_48 σ48 H locs ls M hl hf
      refine lv_iload_n hx hb dX5_sentence_48 rfl (lv_at hl 1 rfl) ?_
      obtain ⟨hft, hff⟩ := hf
      refine lv_if_eq (tgt := 132) hx hb dX5_sentence_49 (by decide) (fun c1 => ?_) (fun c1 => ?_)
      · have hf := hft c1
        refine lv_aload_n hx hb dX5_sentence_132 rfl (lv_at hl 0 rfl) ?_
        refine hm_get C M 6 (by decide) q2073 (v := .ref (b 6)) rfl dX5_sentence_133 ?_
        refine lv_sipush (v := 165) hx hb dX5_sentence_136 rfl ?_
        refine lv_aload_n hx hb dX5_sentence_139 rfl (lv_at hl 0 rfl) ?_
        refine hm_get C M 43 (by decide) q2110 (v := .int (hm_gI σ48 43)) rfl dX5_sentence_140 ?_
        obtain ⟨g1, hf⟩ := hf
        refine hm_ast6 C M g1 dX5_sentence_143 (fun H locs M => ?_)
        refine lv_iconst (v := 0) hx hb dX5_sentence_144 rfl ?_
        refine lv_istore_n (lv' := [(2, .int 0), (0, .ref o), (1, .int v1_48)]) hx hb dX5_sentence_145 rfl hl (by decide) rfl (fun ls hl => ?_)
        obtain ⟨nn, hf⟩ := hf
        exact B146 nn 0 (hm_sA σ48 6 165 (hm_gI σ48 43)) _ _ _ M (lv_sub hl [1, 0] rfl) hf
      · have hf := hff c1
        refine lv_aload_n hx hb dX5_sentence_52 rfl (lv_at hl 0 rfl) ?_
        refine hm_get C M 47 (by decide) q2114 (v := .int (hm_gI σ48 47)) rfl dX5_sentence_53 ?_
        obtain ⟨hft, hff⟩ := hf
        refine lv_if_eq (tgt := 101) hx hb dX5_sentence_56 (by decide) (fun c1 => ?_) (fun c1 => ?_)
        · have hf := hft c1
          exact B101 v1_48 σ48 _ _ _ M (lv_sub hl [0, 1] rfl) hf
        · have hf := hff c1
          refine lv_aload_n hx hb dX5_sentence_59 rfl (lv_at hl 0 rfl) ?_
          refine hm_get C M 11 (by decide) q2078 (v := .int (hm_gI σ48 11)) rfl dX5_sentence_60 ?_
          obtain ⟨hft, hff⟩ := hf
          refine lv_if_ne (tgt := 101) hx hb dX5_sentence_63 (by decide) (fun c1 => ?_) (fun c1 => ?_)
          · have hf := hft c1
            exact B101 v1_48 σ48 _ _ _ M (lv_sub hl [0, 1] rfl) hf
          · have hf := hff c1
            refine lv_aload_n hx hb dX5_sentence_66 rfl (lv_at hl 0 rfl) ?_
            refine hm_cv C M hl.1 (As := []) (rest := []) (hk_nots l D dA o b hB  σ48 hf) (n := 0) q2664 q2666 qs116 q140 q2667 (by decide +kernel) rfl ⟨Nat.le_of_ble_eq_true rfl, Nat.le_of_ble_eq_true rfl⟩ rfl (Nat.le_of_ble_eq_true rfl) dX5_sentence_67 (fun σ_67 H locs hf M => ?_)
            refine lv_aload_n hx hb dX5_sentence_70 rfl (lv_at hl 0 rfl) ?_
            refine lv_bipush (v := 22) hx hb dX5_sentence_71 rfl ?_
            refine hm_cv C M hl.1 (As := [.int 22]) (rest := []) (hk_joins l D dA o b hB 22 σ_67 hf) (n := 1) q2672 q2674 qs118 q140 q2675 (by decide +kernel) rfl ⟨Nat.le_of_ble_eq_true rfl, Nat.le_of_ble_eq_true rfl⟩ rfl (Nat.le_of_ble_eq_true rfl) dX5_sentence_73 (fun σ_73 H locs hf M => ?_)
            refine lv_aload_n hx hb dX5_sentence_76 rfl (lv_at hl 0 rfl) ?_
            refine hm_get C M 45 (by decide) q2112 (v := .int (hm_gI σ_73 45)) rfl dX5_sentence_77 ?_
            obtain ⟨hft, hff⟩ := hf
            refine lv_if_le (tgt := 96) hx hb dX5_sentence_80 (by decide) (fun c1 => ?_) (fun c1 => ?_)
            · have hf := hft c1
              refine lv_iconst (v := 0) hx hb dX5_sentence_96 rfl ?_
              refine lv_istore_n (lv' := [(1, .int 0), (0, .ref o)]) hx hb dX5_sentence_97 rfl hl (by decide) rfl (fun ls hl => ?_)
              refine lv_goto (tgt := 48) hx hb dX5_sentence_98 (by decide) ?_
              exact ih48 0 σ_73 _ _ _ M (lv_sub hl [1, 0] rfl) hf
            · have hf := hff c1
              refine lv_aload_n hx hb dX5_sentence_83 rfl (lv_at hl 0 rfl) ?_
              refine lv_iconst (v := 1) hx hb dX5_sentence_84 rfl ?_
              refine hm_ci C M hl.1 (As := [.int 1]) (rest := []) (hk_bad l D dA o b hB 1 σ_73 hf) (n := 1) q2260 q2262 qs55 q140 q2263 (by decide +kernel) rfl ⟨Nat.le_of_ble_eq_true rfl, Nat.le_of_ble_eq_true rfl⟩ rfl (Nat.le_of_ble_eq_true rfl) dX5_sentence_85 (fun r_85 σ_85 H locs hf M => ?_)
              refine lv_pop hx hb dX5_sentence_88 rfl ?_
              refine lv_iconst (v := (-1)) hx hb dX5_sentence_89 rfl ?_
              refine lv_aload_n hx hb dX5_sentence_90 rfl (lv_at hl 0 rfl) ?_
              refine hm_get C M 16 (by decide) q2083 (v := .int (hm_gI σ_85 16)) rfl dX5_sentence_91 ?_
              refine lv_isub hx hb dX5_sentence_94 ?_
              exact hret _ _ _ _ _ _ dX5_sentence_95 M hf
  refine lv_aload_n hx hb dX5_sentence_0 rfl (lv_at hl 0 rfl) ?_
  refine lv_iconst (v := 0) hx hb dX5_sentence_1 rfl ?_
  refine hm_put0 C M q2067 dX5_sentence_2 (fun H locs M => ?_)
  refine lv_aload_n hx hb dX5_sentence_5 rfl (lv_at hl 0 rfl) ?_
  refine lv_sipush (v := 200) hx hb dX5_sentence_6 rfl ?_
  refine hm_cv C M hl.1 (As := [.int 200]) (rest := []) (hk_taken l D dA o b hB 200 (hm_sI σ 0 0) hf) (n := 1) q2230 q2232 qs49 q140 q2233 (by decide +kernel) rfl ⟨Nat.le_of_ble_eq_true rfl, Nat.le_of_ble_eq_true rfl⟩ rfl (Nat.le_of_ble_eq_true rfl) dX5_sentence_9 (fun σ_9 H locs hf M => ?_)
  refine lv_aload_n hx hb dX5_sentence_12 rfl (lv_at hl 0 rfl) ?_
  refine lv_iconst (v := 0) hx hb dX5_sentence_13 rfl ?_
  refine hm_put15 C M q2082 dX5_sentence_14 (fun H locs M => ?_)
  refine lv_aload_n hx hb dX5_sentence_17 rfl (lv_at hl 0 rfl) ?_
  refine lv_iconst (v := 0) hx hb dX5_sentence_18 rfl ?_
  refine hm_put43 C M q2110 dX5_sentence_19 (fun H locs M => ?_)
  refine lv_aload_n hx hb dX5_sentence_22 rfl (lv_at hl 0 rfl) ?_
  refine lv_iconst (v := 0) hx hb dX5_sentence_23 rfl ?_
  refine hm_put44 C M q2111 dX5_sentence_24 (fun H locs M => ?_)
  refine lv_aload_n hx hb dX5_sentence_27 rfl (lv_at hl 0 rfl) ?_
  refine lv_iconst (v := 0) hx hb dX5_sentence_28 rfl ?_
  refine hm_put45 C M q2112 dX5_sentence_29 (fun H locs M => ?_)
  refine lv_aload_n hx hb dX5_sentence_32 rfl (lv_at hl 0 rfl) ?_
  refine lv_iconst (v := 1) hx hb dX5_sentence_33 rfl ?_
  refine hm_put46 C M q2113 dX5_sentence_34 (fun H locs M => ?_)
  refine lv_aload_n hx hb dX5_sentence_37 rfl (lv_at hl 0 rfl) ?_
  refine lv_iconst (v := 0) hx hb dX5_sentence_38 rfl ?_
  refine hm_put47 C M hb_B0 q2114 dX5_sentence_39 (fun H locs M => ?_)
  refine lv_aload_n hx hb dX5_sentence_42 rfl (lv_at hl 0 rfl) ?_
  refine hm_cv C M hl.1 (As := []) (rest := []) (hk_next l D dA o b hB  (hm_sI (hm_sI (hm_sI (hm_sI (hm_sI (hm_sI σ_9 15 0) 43 0) 44 0) 45 0) 46 1) 47 0) hf) (n := 0) q2234 q2236 qs50 q140 q2237 (by decide +kernel) rfl ⟨Nat.le_of_ble_eq_true rfl, Nat.le_of_ble_eq_true rfl⟩ rfl (Nat.le_of_ble_eq_true rfl) dX5_sentence_43 (fun σ_43 H locs hf M => ?_)
  refine lv_iconst (v := 1) hx hb dX5_sentence_46 rfl ?_
  refine lv_istore_n (lv' := [(1, .int 1), (0, .ref o)]) hx hb dX5_sentence_47 rfl hl (by decide) rfl (fun ls hl => ?_)
  obtain ⟨nn, hf⟩ := hf
  exact B48 nn 1 σ_43 _ _ _ M (lv_sub hl [1, 0] rfl) hf
def hw_isLeaf_b182 (v3_182 : Int32) (v4_182 : Int32) (t0_182 : Int32) (σ182 : hm_S) (Q : Int32 → hm_S → Prop) : Prop := (¬ v3_182 = 60 → (¬ v3_182 = 61 → (t0_182 ≤ v4_182 → Q 0 σ182) ∧ (¬ t0_182 ≤ v4_182 → Q 1 σ182)) ∧ (v3_182 = 61 → (¬ t0_182 = v4_182 → Q 0 σ182) ∧ (t0_182 = v4_182 → Q 1 σ182))) ∧ (v3_182 = 60 → (v4_182 ≤ t0_182 → Q 0 σ182) ∧ (¬ v4_182 ≤ t0_182 → Q 1 σ182))
def hw_isLeaf (a1 : Int32) (a2 : Int32) (a3 : Int32) (a4 : Int32) (σ : hm_S) (Q : Int32 → hm_S → Prop) : Prop := (a2 = 0 → hw_isLiving a1 σ (fun r_38 σ_38 => ((¬ r_38 = 0 → Q 0 σ_38) ∧ (r_38 = 0 → Q 1 σ_38)))) ∧ (a2 = 1 → vp_in (117 + a1) 346 ∧ (((hm_gA σ 6 (117 + a1)) ≤ 0 → Q 0 σ) ∧ (¬ (hm_gA σ 6 (117 + a1)) ≤ 0 → Q 1 σ))) ∧ (a2 = 2 → vp_in (27 + a1) 346 ∧ (hw_living  σ (fun r_78 σ_78 => ((¬ ((hm_gA σ 6 (27 + a1)) &&& r_78) = 0 → Q 0 σ_78) ∧ (((hm_gA σ 6 (27 + a1)) &&& r_78) = 0 → Q 1 σ_78))))) ∧ (a2 = 3 → hw_degreeOf a1 a4 σ (fun r_95 σ_95 => ((r_95 < 0 → Q 0 σ_95) ∧ (¬ r_95 < 0 → Q 1 σ_95)))) ∧ (a2 = 4 → vp_in (27 + a1) 346 ∧ (hw_bitOf (hm_gA σ 6 (27 + a1)) a4 σ (fun r_118 σ_118 => (hb_B r_118 ∧ Q r_118 σ_118)))) ∧ (¬ a2 = 0 → ¬ a2 = 1 → ¬ a2 = 2 → ¬ a2 = 3 → ¬ a2 = 4 → (¬ a2 = 5 → (¬ a2 = 6 → (¬ a2 = 7 → hw_isLeaf_b182  a3 a4 a1 σ Q) ∧ (a2 = 7 → hw_livingIssue a1 σ (fun r_172 σ_172 => (hw_bits r_172 σ_172 (fun r_175 σ_175 => (hw_isLeaf_b182  a3 a4 r_175 σ_175 Q)))))) ∧ (a2 = 6 → vp_in 100 346 ∧ (vp_in (3 + a1) 346 ∧ (hw_isLeaf_b182  a3 a4 ((hm_gA σ 6 100) - (hm_gA σ 6 (3 + a1))) σ Q)))) ∧ (a2 = 5 → vp_in (105 + a1) 346 ∧ (hw_isLeaf_b182  a3 a4 (hm_gA σ 6 (105 + a1)) σ Q)))
set_option maxHeartbeats 4000000 in
set_option maxRecDepth 100000 in
theorem hk_isLeaf (l : Launch) (D : va_G) (dA : Nat → ClassId) (o : Nat) (b : Nat → Nat) (hB : hm_D dA o b) (a1 : Int32) (a2 : Int32) (a3 : Int32) (a4 : Int32) (σ : hm_S) {Q : Int32 → hm_S → Prop} (hf : hw_isLeaf a1 a2 a3 a4 σ Q) : Met l yX5_isLeaf (ws_ yX5_isLeaf cX5_isLeaf 6 (some .boolean)) (hb_R 3 71) (va_Pc [.ref o, .int a1, .int a2, .int a3, .int a4] (hm_U D dA o b σ)) (va_Qi Q (hm_U D dA o b) (hm_A o b)) 0 0 (hm_A o b) := by
  refine hm_Mz hB (LV := [(0, .ref o), (1, .int a1), (2, .int a2), (3, .int a3), (4, .int a4)]) (by decide) rfl (Nat.le_of_ble_eq_true rfl) (fun p e s m args below meth c ls QQ C M hl hret => ?_)
  have hx := C.1.1
  have hb := C.1.2.1
  have B182 : ∀ (v3_182 : Int32) (v4_182 : Int32) (t0_182 : Int32) (σ182 : hm_S) (H : Heap) (locs : List Loc) (ls : Array Slot), hm_M D dA o b s.heap σ182 H locs → lv_has ls 6 [(0, .ref o), (3, .int v3_182), (4, .int v4_182)] → hw_isLeaf_b182  v3_182 v4_182 t0_182 σ182 Q → W p l e (hb_R 3 71) s m args below meth c H locs 0 0 QQ (F0 m 182 ls [.int t0_182]) := by
    intro v3_182 v4_182 t0_182 σ182 H locs ls M hl hf
    refine lv_istore (lv' := [(5, .int t0_182), (0, .ref o), (3, .int v3_182), (4, .int v4_182)]) hx hb dX5_isLeaf_182 hl (by decide) rfl (fun ls hl => ?_)
    refine lv_iload_n hx hb dX5_isLeaf_184 rfl (lv_at hl 2 rfl) ?_
    refine lv_bipush (v := 60) hx hb dX5_isLeaf_185 rfl ?_
    obtain ⟨hft, hff⟩ := hf
    refine lv_icmp_ne (tgt := 205) hx hb dX5_isLeaf_187 (by decide) (fun c1 => ?_) (fun c1 => ?_)
    · have hf := hft c1
      refine lv_iload_n hx hb dX5_isLeaf_205 rfl (lv_at hl 2 rfl) ?_
      refine lv_bipush (v := 61) hx hb dX5_isLeaf_206 rfl ?_
      obtain ⟨hft, hff⟩ := hf
      refine lv_icmp_ne (tgt := 226) hx hb dX5_isLeaf_208 (by decide) (fun c1 => ?_) (fun c1 => ?_)
      · have hf := hft c1
        refine lv_iload hx hb dX5_isLeaf_226 (lv_at hl 0 rfl) ?_
        refine lv_iload hx hb dX5_isLeaf_228 (lv_at hl 3 rfl) ?_
        obtain ⟨hft, hff⟩ := hf
        refine lv_icmp_le (tgt := 237) hx hb dX5_isLeaf_230 (by decide) (fun c1 => ?_) (fun c1 => ?_)
        · have hf := hft c1
          refine lv_iconst (v := 0) hx hb dX5_isLeaf_237 rfl ?_
          exact hret _ _ _ _ _ _ dX5_isLeaf_238 M hb_B0 hf
        · have hf := hff c1
          refine lv_iconst (v := 1) hx hb dX5_isLeaf_233 rfl ?_
          refine lv_goto (tgt := 238) hx hb dX5_isLeaf_234 (by decide) ?_
          exact hret _ _ _ _ _ _ dX5_isLeaf_238 M hb_B1 hf
      · have hf := hff c1
        refine lv_iload hx hb dX5_isLeaf_211 (lv_at hl 0 rfl) ?_
        refine lv_iload hx hb dX5_isLeaf_213 (lv_at hl 3 rfl) ?_
        obtain ⟨hft, hff⟩ := hf
        refine lv_icmp_ne (tgt := 222) hx hb dX5_isLeaf_215 (by decide) (fun c1 => ?_) (fun c1 => ?_)
        · have hf := hft c1
          refine lv_iconst (v := 0) hx hb dX5_isLeaf_222 rfl ?_
          refine lv_goto (tgt := 238) hx hb dX5_isLeaf_223 (by decide) ?_
          exact hret _ _ _ _ _ _ dX5_isLeaf_238 M hb_B0 hf
        · have hf := hff c1
          refine lv_iconst (v := 1) hx hb dX5_isLeaf_218 rfl ?_
          refine lv_goto (tgt := 238) hx hb dX5_isLeaf_219 (by decide) ?_
          exact hret _ _ _ _ _ _ dX5_isLeaf_238 M hb_B1 hf
    · have hf := hff c1
      refine lv_iload hx hb dX5_isLeaf_190 (lv_at hl 0 rfl) ?_
      refine lv_iload hx hb dX5_isLeaf_192 (lv_at hl 3 rfl) ?_
      obtain ⟨hft, hff⟩ := hf
      refine lv_icmp_ge (tgt := 201) hx hb dX5_isLeaf_194 (by decide) (fun c1 => ?_) (fun c1 => ?_)
      · have hf := hft c1
        refine lv_iconst (v := 0) hx hb dX5_isLeaf_201 rfl ?_
        refine lv_goto (tgt := 238) hx hb dX5_isLeaf_202 (by decide) ?_
        exact hret _ _ _ _ _ _ dX5_isLeaf_238 M hb_B0 hf
      · have hf := hff c1
        refine lv_iconst (v := 1) hx hb dX5_isLeaf_197 rfl ?_
        refine lv_goto (tgt := 238) hx hb dX5_isLeaf_198 (by decide) ?_
        exact hret _ _ _ _ _ _ dX5_isLeaf_238 M hb_B1 hf
  refine lv_iload_n hx hb dX5_isLeaf_0 rfl (lv_at hl 2 rfl) ?_
  obtain ⟨hf0, hf1, hf2, hf3, hf4, hf5⟩ := hf
  by_cases c0 : a2 = 0
  · have hf := hf0 c0
    refine hb_sw hx hb 0 c0 dX5_isLeaf_1 (by decide) (by decide) rfl (tgt := 36) (by decide) ?_
    refine lv_aload_n hx hb dX5_isLeaf_36 rfl (lv_at hl 0 rfl) ?_
    refine lv_iload_n hx hb dX5_isLeaf_37 rfl (lv_at hl 1 rfl) ?_
    refine hm_ci C M hl.1 (As := [.int a1]) (rest := []) (hk_isLiving l D dA o b hB a1 σ hf) (n := 1) q2341 q2343 qs71 q140 q2344 (by decide +kernel) rfl ⟨Nat.le_of_ble_eq_true rfl, Nat.le_of_ble_eq_true rfl⟩ rfl (Nat.le_of_ble_eq_true rfl) dX5_isLeaf_38 (fun r_38 σ_38 H locs hf M => ?_)
    obtain ⟨hft, hff⟩ := hf
    refine lv_if_ne (tgt := 48) hx hb dX5_isLeaf_41 (by decide) (fun c1 => ?_) (fun c1 => ?_)
    · have hf := hft c1
      refine lv_iconst (v := 0) hx hb dX5_isLeaf_48 rfl ?_
      exact hret _ _ _ _ _ _ dX5_isLeaf_49 M hb_B0 hf
    · have hf := hff c1
      refine lv_iconst (v := 1) hx hb dX5_isLeaf_44 rfl ?_
      refine lv_goto (tgt := 49) hx hb dX5_isLeaf_45 (by decide) ?_
      exact hret _ _ _ _ _ _ dX5_isLeaf_49 M hb_B1 hf
  by_cases c1 : a2 = 1
  · have hf := hf1 c1
    refine hb_sw hx hb 1 c1 dX5_isLeaf_1 (by decide) (by decide) rfl (tgt := 50) (by decide) ?_
    refine lv_aload_n hx hb dX5_isLeaf_50 rfl (lv_at hl 0 rfl) ?_
    refine hm_get C M 6 (by decide) q2073 (v := .ref (b 6)) rfl dX5_isLeaf_51 ?_
    refine lv_bipush (v := 117) hx hb dX5_isLeaf_54 rfl ?_
    refine lv_iload_n hx hb dX5_isLeaf_56 rfl (lv_at hl 1 rfl) ?_
    refine lv_iadd hx hb dX5_isLeaf_57 ?_
    obtain ⟨g1, hf⟩ := hf
    refine hm_ald6 C M g1 dX5_isLeaf_58 ?_
    obtain ⟨hft, hff⟩ := hf
    refine lv_if_le (tgt := 66) hx hb dX5_isLeaf_59 (by decide) (fun c1 => ?_) (fun c1 => ?_)
    · have hf := hft c1
      refine lv_iconst (v := 0) hx hb dX5_isLeaf_66 rfl ?_
      exact hret _ _ _ _ _ _ dX5_isLeaf_67 M hb_B0 hf
    · have hf := hff c1
      refine lv_iconst (v := 1) hx hb dX5_isLeaf_62 rfl ?_
      refine lv_goto (tgt := 67) hx hb dX5_isLeaf_63 (by decide) ?_
      exact hret _ _ _ _ _ _ dX5_isLeaf_67 M hb_B1 hf
  by_cases c2 : a2 = 2
  · have hf := hf2 c2
    refine hb_sw hx hb 2 c2 dX5_isLeaf_1 (by decide) (by decide) rfl (tgt := 68) (by decide) ?_
    refine lv_aload_n hx hb dX5_isLeaf_68 rfl (lv_at hl 0 rfl) ?_
    refine hm_get C M 6 (by decide) q2073 (v := .ref (b 6)) rfl dX5_isLeaf_69 ?_
    refine lv_bipush (v := 27) hx hb dX5_isLeaf_72 rfl ?_
    refine lv_iload_n hx hb dX5_isLeaf_74 rfl (lv_at hl 1 rfl) ?_
    refine lv_iadd hx hb dX5_isLeaf_75 ?_
    obtain ⟨g1, hf⟩ := hf
    refine hm_ald6 C M g1 dX5_isLeaf_76 ?_
    refine lv_aload_n hx hb dX5_isLeaf_77 rfl (lv_at hl 0 rfl) ?_
    refine hm_ci C M hl.1 (As := []) (rest := [.int (hm_gA σ 6 (27 + a1))]) (hk_living l D dA o b hB  σ hf) (n := 0) q2357 q2359 qs75 q140 q2360 (by decide +kernel) rfl ⟨Nat.le_of_ble_eq_true rfl, Nat.le_of_ble_eq_true rfl⟩ rfl (Nat.le_of_ble_eq_true rfl) dX5_isLeaf_78 (fun r_78 σ_78 H locs hf M => ?_)
    refine lv_iand hx hb dX5_isLeaf_81 ?_
    obtain ⟨hft, hff⟩ := hf
    refine lv_if_ne (tgt := 89) hx hb dX5_isLeaf_82 (by decide) (fun c1 => ?_) (fun c1 => ?_)
    · have hf := hft c1
      refine lv_iconst (v := 0) hx hb dX5_isLeaf_89 rfl ?_
      exact hret _ _ _ _ _ _ dX5_isLeaf_90 M hb_B0 hf
    · have hf := hff c1
      refine lv_iconst (v := 1) hx hb dX5_isLeaf_85 rfl ?_
      refine lv_goto (tgt := 90) hx hb dX5_isLeaf_86 (by decide) ?_
      exact hret _ _ _ _ _ _ dX5_isLeaf_90 M hb_B1 hf
  by_cases c3 : a2 = 3
  · have hf := hf3 c3
    refine hb_sw hx hb 3 c3 dX5_isLeaf_1 (by decide) (by decide) rfl (tgt := 91) (by decide) ?_
    refine lv_aload_n hx hb dX5_isLeaf_91 rfl (lv_at hl 0 rfl) ?_
    refine lv_iload_n hx hb dX5_isLeaf_92 rfl (lv_at hl 1 rfl) ?_
    refine lv_iload hx hb dX5_isLeaf_93 (lv_at hl 4 rfl) ?_
    refine hm_ci C M hl.1 (As := [.int a1, .int a4]) (rest := []) (hk_degreeOf l D dA o b hB a1 a4 σ hf) (n := 2) q2373 q2375 qs77 q140 q2376 (by decide +kernel) rfl ⟨Nat.le_of_ble_eq_true rfl, Nat.le_of_ble_eq_true rfl⟩ rfl (Nat.le_of_ble_eq_true rfl) dX5_isLeaf_95 (fun r_95 σ_95 H locs hf M => ?_)
    obtain ⟨hft, hff⟩ := hf
    refine lv_if_lt (tgt := 105) hx hb dX5_isLeaf_98 (by decide) (fun c1 => ?_) (fun c1 => ?_)
    · have hf := hft c1
      refine lv_iconst (v := 0) hx hb dX5_isLeaf_105 rfl ?_
      exact hret _ _ _ _ _ _ dX5_isLeaf_106 M hb_B0 hf
    · have hf := hff c1
      refine lv_iconst (v := 1) hx hb dX5_isLeaf_101 rfl ?_
      refine lv_goto (tgt := 106) hx hb dX5_isLeaf_102 (by decide) ?_
      exact hret _ _ _ _ _ _ dX5_isLeaf_106 M hb_B1 hf
  by_cases c4 : a2 = 4
  · have hf := hf4 c4
    refine hb_sw hx hb 4 c4 dX5_isLeaf_1 (by decide) (by decide) rfl (tgt := 107) (by decide) ?_
    refine lv_aload_n hx hb dX5_isLeaf_107 rfl (lv_at hl 0 rfl) ?_
    refine hm_get C M 6 (by decide) q2073 (v := .ref (b 6)) rfl dX5_isLeaf_108 ?_
    refine lv_bipush (v := 27) hx hb dX5_isLeaf_111 rfl ?_
    refine lv_iload_n hx hb dX5_isLeaf_113 rfl (lv_at hl 1 rfl) ?_
    refine lv_iadd hx hb dX5_isLeaf_114 ?_
    obtain ⟨g1, hf⟩ := hf
    refine hm_ald6 C M g1 dX5_isLeaf_115 ?_
    refine lv_iload hx hb dX5_isLeaf_116 (lv_at hl 4 rfl) ?_
    refine hm_csi C M hl.1 (As := [.int (hm_gA σ 6 (27 + a1)), .int a4]) (rest := []) (hk_bitOf l D dA o b hB (hm_gA σ 6 (27 + a1)) a4 σ hf) (n := 2) q2294 q2295 q140 q2296 (by decide +kernel) rfl ⟨Nat.le_of_ble_eq_true rfl, Nat.le_of_ble_eq_true rfl⟩ rfl (Nat.le_of_ble_eq_true rfl) dX5_isLeaf_118 (fun r_118 σ_118 H locs hf M => ?_)
    exact hret _ _ _ _ _ _ dX5_isLeaf_121 M hf.1 hf.2
  have hf := hf5 c0 c1 c2 c3 c4
  refine lv_tableOut (tgt := 122) hx hb dX5_isLeaf_1 (hb_swo (fun j j1 j2 => by
    have j3 : j = 0 ∨ j = 1 ∨ j = 2 ∨ j = 3 ∨ j = 4 := by omega
    rcases j3 with rfl | rfl | rfl | rfl | rfl
    · exact c0
    · exact c1
    · exact c2
    · exact c3
    · exact c4
    )) (by decide) ?_
  refine lv_iload_n hx hb dX5_isLeaf_122 rfl (lv_at hl 2 rfl) ?_
  refine lv_iconst (v := 5) hx hb dX5_isLeaf_123 rfl ?_
  obtain ⟨hft, hff⟩ := hf
  refine lv_icmp_ne (tgt := 139) hx hb dX5_isLeaf_124 (by decide) (fun c1 => ?_) (fun c1 => ?_)
  · have hf := hft c1
    refine lv_iload_n hx hb dX5_isLeaf_139 rfl (lv_at hl 2 rfl) ?_
    refine lv_bipush (v := 6) hx hb dX5_isLeaf_140 rfl ?_
    obtain ⟨hft, hff⟩ := hf
    refine lv_icmp_ne (tgt := 164) hx hb dX5_isLeaf_142 (by decide) (fun c1 => ?_) (fun c1 => ?_)
    · have hf := hft c1
      refine lv_iload_n hx hb dX5_isLeaf_164 rfl (lv_at hl 2 rfl) ?_
      refine lv_bipush (v := 7) hx hb dX5_isLeaf_165 rfl ?_
      obtain ⟨hft, hff⟩ := hf
      refine lv_icmp_ne (tgt := 181) hx hb dX5_isLeaf_167 (by decide) (fun c1 => ?_) (fun c1 => ?_)
      · have hf := hft c1
        refine lv_iload_n hx hb dX5_isLeaf_181 rfl (lv_at hl 1 rfl) ?_
        exact B182 a3 a4 a1 σ _ _ _ M (lv_sub hl [0, 3, 4] rfl) hf
      · have hf := hff c1
        refine lv_aload_n hx hb dX5_isLeaf_170 rfl (lv_at hl 0 rfl) ?_
        refine lv_iload_n hx hb dX5_isLeaf_171 rfl (lv_at hl 1 rfl) ?_
        refine hm_ci C M hl.1 (As := [.int a1]) (rest := []) (hk_livingIssue l D dA o b hB a1 σ hf) (n := 1) q2349 q2351 qs73 q140 q2352 (by decide +kernel) rfl ⟨Nat.le_of_ble_eq_true rfl, Nat.le_of_ble_eq_true rfl⟩ rfl (Nat.le_of_ble_eq_true rfl) dX5_isLeaf_172 (fun r_172 σ_172 H locs hf M => ?_)
        refine hm_csi C M hl.1 (As := [.int r_172]) (rest := []) (hk_bits l D dA o b hB r_172 σ_172 hf) (n := 1) q2291 q2292 q140 q2293 (by decide +kernel) rfl ⟨Nat.le_of_ble_eq_true rfl, Nat.le_of_ble_eq_true rfl⟩ rfl (Nat.le_of_ble_eq_true rfl) dX5_isLeaf_175 (fun r_175 σ_175 H locs hf M => ?_)
        refine lv_goto (tgt := 182) hx hb dX5_isLeaf_178 (by decide) ?_
        exact B182 a3 a4 r_175 σ_175 _ _ _ M (lv_sub hl [0, 3, 4] rfl) hf
    · have hf := hff c1
      refine lv_aload_n hx hb dX5_isLeaf_145 rfl (lv_at hl 0 rfl) ?_
      refine hm_get C M 6 (by decide) q2073 (v := .ref (b 6)) rfl dX5_isLeaf_146 ?_
      refine lv_bipush (v := 100) hx hb dX5_isLeaf_149 rfl ?_
      obtain ⟨g1, hf⟩ := hf
      refine hm_ald6 C M g1 dX5_isLeaf_151 ?_
      refine lv_aload_n hx hb dX5_isLeaf_152 rfl (lv_at hl 0 rfl) ?_
      refine hm_get C M 6 (by decide) q2073 (v := .ref (b 6)) rfl dX5_isLeaf_153 ?_
      refine lv_iconst (v := 3) hx hb dX5_isLeaf_156 rfl ?_
      refine lv_iload_n hx hb dX5_isLeaf_157 rfl (lv_at hl 1 rfl) ?_
      refine lv_iadd hx hb dX5_isLeaf_158 ?_
      obtain ⟨g1, hf⟩ := hf
      refine hm_ald6 C M g1 dX5_isLeaf_159 ?_
      refine lv_isub hx hb dX5_isLeaf_160 ?_
      refine lv_goto (tgt := 182) hx hb dX5_isLeaf_161 (by decide) ?_
      exact B182 a3 a4 ((hm_gA σ 6 100) - (hm_gA σ 6 (3 + a1))) σ _ _ _ M (lv_sub hl [0, 3, 4] rfl) hf
  · have hf := hff c1
    refine lv_aload_n hx hb dX5_isLeaf_127 rfl (lv_at hl 0 rfl) ?_
    refine hm_get C M 6 (by decide) q2073 (v := .ref (b 6)) rfl dX5_isLeaf_128 ?_
    refine lv_bipush (v := 105) hx hb dX5_isLeaf_131 rfl ?_
    refine lv_iload_n hx hb dX5_isLeaf_133 rfl (lv_at hl 1 rfl) ?_
    refine lv_iadd hx hb dX5_isLeaf_134 ?_
    obtain ⟨g1, hf⟩ := hf
    refine hm_ald6 C M g1 dX5_isLeaf_135 ?_
    refine lv_goto (tgt := 182) hx hb dX5_isLeaf_136 (by decide) ?_
    exact B182 a3 a4 (hm_gA σ 6 (105 + a1)) σ _ _ _ M (lv_sub hl [0, 3, 4] rfl) hf
