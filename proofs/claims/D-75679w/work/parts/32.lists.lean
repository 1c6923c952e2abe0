/-! lists that are read: size, get; a family's person -/
set_option maxRecDepth 100000
section HLT
variable {l : Launch} {D : va_G} {dA : Nat → ClassId} {y : MethodName} {cc : ByteArray} {nL fr lo : Nat} {vs : List Value} {LV : List (Nat × Value)} {PU : State → Prop}
theorem hp_Mr {rt : String} {Q : Nat → Unit → Prop} (hK : ∀ U, PU U → hb_K D dA U) (hy : plainName y.cls = true) (hLV : lv_args 0 vs = LV) (hn : (lg_sl vs).length ≤ nL)
    (body : ∀ (p : Program) (e : Env) (s : State) (m : MethodId) (args : Array Value) (below : List Frame) (meth : Method) (c : Code) (ls : Array Slot) (QQ : State → Prop), hb_C p s m args c cc nL y.cls D dA → PU s → lv_has ls nL LV → (∀ (v : Nat) (ls : Array Slot) (pc : Nat), decode cc pc = .ok (.areturn, 1) → Q v () → W p l e (hb_R fr lo) s m args below meth c s.heap [] 0 0 QQ (F0 m pc ls [.ref v])) → W p l e (hb_R fr lo) s m args below meth c s.heap [] 0 0 QQ (F0 m 0 ls [])) :
    Met l y (ws_ y cc nL (some (.object rt))) (hb_R fr lo) (va_Pc vs PU) (va_Sr (fun r => Q r ()) (fun r => .ref r)) 0 0 (fun _ => False) := by
  refine Met.ofW (cc := cc) (maxL := nL) (ret := some (.object rt)) hy rfl ?_
  intro p e s m args below meth c s₁ B hml hv
  obtain ⟨rfl, hP⟩ := hv
  have hx := B.exec
  have hb := B.bytes
  have hr := B.returns
  have hts := atoms_spec (ws := ws_ y cc nL (some (.object rt))) B.pre
  have hts : ∀ w ∈ lw_all, w.before _ s = true := fun w h => hts w (List.mem_cons_of_mem _ h)
  have hown : s.vm.findClass y.cls = some m.cls := findClass_of_methodNamed B.named
  have hlocks := B.notSynchronized
  have hl := lv_entry vs (n := nL) hn
  rw [lg_entry_eq]
  generalize (lg_sl vs ++ List.replicate (nL - (lg_sl vs).length) Slot.unset).toArray = ls at hl ⊢
  rw [hLV] at hl
  refine body p e s m _ below meth c ls _ ⟨⟨hx, hb, hml, hown, hts⟩, hK s hP⟩ hP hl ?_
  intro v ls pc hd hq
  exact W.aret (v := .ref v) hx hb hr (Or.inl ⟨rt, rfl⟩) (Or.inr ⟨v, rfl⟩) (fun t ht hW => ⟨v, rfl, hq, ht⟩) (fun _ h => by cases h) hd
end HLT
def hl_U (D : va_G) (dA : Nat → ClassId) (a : Nat) (md : Int32) (d : Nat) (n : Int32) (U : State) : Prop := va_at D vwCl (a, .inr (4, [.int md, .ref d, .int n])) U.heap ∧ hb_K D dA U
def hl_V (D : va_G) (dA : Nat → ClassId) (a : Nat) (md : Int32) (d : Nat) (n : Int32) (cap : Nat) (f : Nat → Option Nat) (U : State) : Prop := va_at D vwCl (a, .inr (4, [.int md, .ref d, .int n])) U.heap ∧ va_at D vwCl (d, .inl (dA 6, cap, .inr (.inr (.inr (.inr f))))) U.heap ∧ hb_K D dA U
theorem hl_blind {D : va_G} {dA : Nat → ClassId} {a d : Nat} {md n : Int32} {As : List Value} : FrameBlind (va_Pc As (hl_U D dA a md d n)) := fun v U g mk q => ⟨q.1, q.2.1, hb_K.same (s := U) (U := U.calling g mk v) rfl q.2.2⟩
theorem hl_blindV {D : va_G} {dA : Nat → ClassId} {a d cap : Nat} {md n : Int32} {f : Nat → Option Nat} {As : List Value} : FrameBlind (va_Pc As (hl_V D dA a md d n cap f)) := fun v U g mk q => ⟨q.1, q.2.1, q.2.2.1, hb_K.same (s := U) (U := U.calling g mk v) rfl q.2.2.2⟩
set_option maxHeartbeats 4000000 in
theorem hl_size (l : Launch) {D : va_G} {dA : Nat → ClassId} {a d : Nat} {md n : Int32} : Met l yJ2_size (ws_ yJ2_size cJ2_size 1 (some .int)) (hb_R 0 0) (va_Pc [.ref a] (hl_U D dA a md d n)) (vp_Si (fun r => r = n)) 0 0 (fun _ => False) := by
  refine hp_Mi (Q := fun r _ => r = n) (LV := [(0, .ref a)]) (fun _ h => h.2) (by decide) rfl (Nat.le_of_ble_eq_true rfl) (fun p e s m args below meth c ls QQ C hU hl hret => ?_)
  have hx := C.1.1
  have hb := C.1.2.1
  refine lv_aload_n hx hb dJ2_size_0 rfl (lv_at hl 0 rfl) ?_
  refine hp_get C hU.1 (CN := RJ2) (T := TJ2) (N := 3) rfl in_J2 2 (by decide) q205 (v := .int n) rfl dJ2_size_1 ?_
  exact hret _ _ _ dJ2_size_4 rfl
set_option maxHeartbeats 4000000 in
theorem hl_elementData (l : Launch) {D : va_G} {dA : Nat → ClassId} {a d cap x : Nat} {md n i : Int32} {f : Nat → Option Nat} (hi : vp_in i cap) (hxi : f i.toNatClampNeg = some x) : Met l yJ2_elementData (ws_ yJ2_elementData cJ2_elementData 2 (some (.object "java/lang/Object"))) (hb_R 0 0) (va_Pc [.ref a, .int i] (hl_V D dA a md d n cap f)) (va_Sr (fun r => r = x) (fun r => .ref r)) 0 0 (fun _ => False) := by
  refine hp_Mr (Q := fun r _ => r = x) (LV := [(0, .ref a), (1, .int i)]) (fun _ h => h.2.2) (by decide) rfl (Nat.le_of_ble_eq_true rfl) (fun p e s m args below meth c ls QQ C hU hl hret => ?_)
  have hx := C.1.1
  have hb := C.1.2.1
  refine lv_aload_n hx hb dJ2_elementData_0 rfl (lv_at hl 0 rfl) ?_
  refine hp_get C hU.1 (CN := RJ2) (T := TJ2) (N := 3) rfl in_J2 1 (by decide) q202 (v := .ref d) rfl dJ2_elementData_1 ?_
  refine lv_iload_n hx hb dJ2_elementData_4 rfl (lv_at hl 1 rfl) ?_
  refine va_aldq hx hb C.2.1 (hr_P1 hU.2.1) 0 6 rfl rfl hi dJ2_elementData_5 ?_
  rw [hxi]
  exact hret _ _ _ dJ2_elementData_6 rfl
set_option maxHeartbeats 4000000 in
theorem hl_get (l : Launch) {D : va_G} {dA : Nat → ClassId} {a d cap x : Nat} {md n i : Int32} {f : Nat → Option Nat} (hi : vp_in i cap) (hxi : f i.toNatClampNeg = some x) (h0 : ¬ i < 0) (hn : i < n) : Met l yJ2_get (ws_ yJ2_get cJ2_get 2 (some (.object "java/lang/Object"))) (hb_R 2 43) (va_Pc [.ref a, .int i] (hl_V D dA a md d n cap f)) (va_Sr (fun r => r = x) (fun r => .ref r)) 0 0 (fun _ => False) := by
  refine hp_Mr (Q := fun r _ => r = x) (LV := [(0, .ref a), (1, .int i)]) (fun _ h => h.2.2) (by decide) rfl (Nat.le_of_ble_eq_true rfl) (fun p e s m args below meth c ls QQ C hU hl hret => ?_)
  have hx := C.1.1
  have hb := C.1.2.1
  refine lv_iload_n hx hb dJ2_get_0 rfl (lv_at hl 1 rfl) ?_
  refine lv_aload_n hx hb dJ2_get_1 rfl (lv_at hl 0 rfl) ?_
  refine hp_get C hU.1 (CN := RJ2) (T := TJ2) (N := 3) rfl in_J2 2 (by decide) q205 (v := .int n) rfl dJ2_get_2 ?_
  have hf : hw_J4_checkIndex i n () (fun _ _ => True) := by
    refine ⟨fun h => absurd h h0, fun _ => ⟨fun _ => trivial, fun h => absurd hn h⟩⟩
  refine hp_cs C hl.1 (As := [.int i, .int n]) (rest := []) (hk_J4_checkIndex l D dA i n hf) (n := 2) q331 q332 q132 q333 (by decide +kernel) rfl ⟨Nat.le_of_ble_eq_true rfl, Nat.le_of_ble_eq_true rfl⟩ ⟨Nat.zero_le _, Nat.zero_le _⟩ rfl (Nat.le_of_ble_eq_true rfl) dJ2_get_5 (fun r_5 hf => ?_)
  refine lv_pop hx hb dJ2_get_8 rfl ?_
  refine lv_aload_n hx hb dJ2_get_9 rfl (lv_at hl 0 rfl) ?_
  refine lv_iload_n hx hb dJ2_get_10 rfl (lv_at hl 1 rfl) ?_
  refine hp_cvr C hl.1 (As := [.int i]) (rest := []) hl_blindV (CN := RJ2) (T := TJ2) (N := 3) (ci := 4) rfl hU.1 (fun U hU2 hW => ⟨by rw [hU2]; exact hU.1, by rw [hU2]; exact hU.2.1, hb_K.warm hW C.2⟩) (Q := fun r _ => r = x) (hl_elementData l hi hxi) (n := 1) q337 q338 q339 q129 q340 (by decide +kernel) rfl ⟨Nat.le_of_ble_eq_true rfl, Nat.le_of_ble_eq_true rfl⟩ ⟨Nat.zero_le _, Nat.zero_le _⟩ rfl (Nat.le_of_ble_eq_true rfl) dJ2_get_11 (fun r_11 hr => ?_)
  obtain rfl : r_11 = x := hr
  exact hret _ _ _ dJ2_get_14 rfl
theorem hf_lt {n : Nat} {i : Int32} (hn : n ≤ 12) (hi : vp_in i n) : ¬ i < 0 ∧ i < nI n := by
  obtain ⟨j, hj, rfl⟩ := vp_in_of hi (by omega)
  exact ⟨nI_pos (by omega), nI_lt hj (by omega)⟩
set_option maxHeartbeats 4000000 in
theorem hf_person (l : Launch) {D : va_G} {dA : Nat → ClassId} {F : hf_F} {i : Int32} (hi : vp_in i (hf_n F 5)) : Met l yX2_person (ws_ yX2_person cX2_person 2 (some (.object "HeirsAtLaw$Person"))) (hb_R 3 64) (va_Pc [.ref (hf_n F 0), .int i] (hf_U D dA F)) (va_Sr (fun r => r = hf_a F 0 i.toNatClampNeg) (fun r => .ref r)) 0 0 (fun _ => False) := by
  refine hp_Mr (Q := fun r _ => r = hf_a F 0 i.toNatClampNeg) (LV := [(0, .ref (hf_n F 0)), (1, .int i)]) (fun _ h => h.2) (by decide) rfl (Nat.le_of_ble_eq_true rfl) (fun p e s m args below meth c ls QQ C hU hl hret => ?_)
  have hx := C.1.1
  have hb := C.1.2.1
  have hF := hU.1
  have hlt : i.toNatClampNeg < hf_n F 5 := Nat.not_le.mp fun q => hi (Or.inr q)
  have h12 := hF.2.2.2.2.2.2.2.1
  have hcap := hF.2.2.2.2.2.1
  have hi0 := hf_lt h12 hi
  refine lv_aload_n hx hb dX2_person_0 rfl (lv_at hl 0 rfl) ?_
  refine hp_get C hF.1 (CN := RX2) (T := TX2) (N := 5) rfl in_X2 3 (by decide) q226 (v := .ref (hf_n F 1)) rfl dX2_person_1 ?_
  refine lv_iload_n hx hb dX2_person_4 rfl (lv_at hl 1 rfl) ?_
  refine hp_cvr C hl.1 (As := [.int i]) (rest := []) hl_blindV (CN := RJ2) (T := TJ2) (N := 3) (ci := 4) rfl hF.2.1 (fun U hU2 hW => ⟨by rw [hU2]; exact hF.2.1, by rw [hU2]; exact (hF.2.2.2.1 _ hlt).1, hb_K.warm hW C.2⟩) (Q := fun r _ => r = hf_a F 0 i.toNatClampNeg) (hl_get l (fun q => hi (q.imp id (fun z => Nat.le_trans hcap z))) (by simp [hf_row, hlt]) hi0.1 hi0.2) (n := 1) q327 q328 q329 q129 q330 (by decide +kernel) rfl ⟨Nat.le_of_ble_eq_true rfl, Nat.le_of_ble_eq_true rfl⟩ ⟨Nat.zero_le _, Nat.zero_le _⟩ rfl (Nat.le_of_ble_eq_true rfl) dX2_person_5 (fun r_5 hr => ?_)
  obtain rfl : r_5 = hf_a F 0 i.toNatClampNeg := hr
  refine va_castS hx hb C.1.2.2.2.1 (C.1.2.2.2.2 _ q341) (C.2.1.1 28 _ rfl).2 (va_recv C.2.1 (hr_P1 (hf_pp hF hi)) (ci := 28) (q0 := 0) rfl rfl) dX2_person_8 ?_
  exact hret _ _ _ dX2_person_11 rfl
