/-! what is only read: families; calls that change nothing -/
set_option maxRecDepth 100000
abbrev hf_F : Type := (Nat → Int32) × (Nat → Nat → Int32) × (Nat → Nat → Int32) × (Nat → Nat) × (Nat → Nat → Nat)
/-- lines 0, links 1, widow 2, and the counts of changes of the two lists 3, 4 -/
def hf_i (F : hf_F) (k : Nat) : Int32 := F.1 k
/-- of person j: born 1, coins 2, parents 3, children 4, spouse 5, dies 6 -/
def hf_p (F : hf_F) (k j : Nat) : Int32 := F.2.1 k j
/-- of legacy j: from 0, to 1, coins 2 -/
def hf_w (F : hf_F) (k j : Nat) : Int32 := F.2.2.1 k j
/-- cells: family 0, persons 1 with its row 2, wills 3 with its row 4; persons 5 of 6 places, wills 7 of 8 places -/
def hf_n (F : hf_F) (k : Nat) : Nat := F.2.2.2.1 k
/-- cells of person j 0, of its name 1, of legacy j 2 -/
def hf_a (F : hf_F) (k j : Nat) : Nat := F.2.2.2.2 k j
def hf_fv (F : hf_F) : List Value := [.int (hf_i F 0), .int (hf_i F 1), .int (hf_i F 2), .ref (hf_n F 1), .ref (hf_n F 3)]
def hf_pv (F : hf_F) (j : Nat) : List Value := [.ref (hf_a F 1 j), .int (hf_p F 1 j), .int (hf_p F 2 j), .int (hf_p F 3 j), .int (hf_p F 4 j), .int (hf_p F 5 j), .int (hf_p F 6 j)]
def hf_wv (F : hf_F) (j : Nat) : List Value := [.int (hf_w F 0 j), .int (hf_w F 1 j), .int (hf_w F 2 j)]
def hf_row (n : Nat) (a : Nat → Nat) : Nat → Option Nat := fun j => if j < n then some (a j) else none
/-- a family, in cells of a kind (Y) -/
def hf_At (Y : Nat → va_E → Prop) (dA : Nat → ClassId) (F : hf_F) : Prop :=
  Y (hf_n F 0) (.inr (15, hf_fv F)) ∧ Y (hf_n F 1) (.inr (4, [.int (hf_i F 3), .ref (hf_n F 2), .int (nI (hf_n F 5))])) ∧ Y (hf_n F 3) (.inr (4, [.int (hf_i F 4), .ref (hf_n F 4), .int (nI (hf_n F 7))])) ∧
  (∀ j, j < hf_n F 5 → Y (hf_n F 2) (.inl (dA 6, hf_n F 6, .inr (.inr (.inr (.inr (hf_row (hf_n F 5) (hf_a F 0))))))) ∧ Y (hf_a F 0 j) (.inr (28, hf_pv F j))) ∧
  (∀ j, j < hf_n F 7 → Y (hf_n F 4) (.inl (dA 6, hf_n F 8, .inr (.inr (.inr (.inr (hf_row (hf_n F 7) (hf_a F 2))))))) ∧ Y (hf_a F 2 j) (.inr (8, hf_wv F j))) ∧
  hf_n F 5 ≤ hf_n F 6 ∧ hf_n F 7 ≤ hf_n F 8 ∧ hf_n F 5 ≤ 12 ∧ hf_n F 7 ≤ 12
theorem hf_At.mono {Y Z : Nat → va_E → Prop} {dA : Nat → ClassId} {F : hf_F} (h : hf_At Y dA F) (hYZ : ∀ a e, Y a e → Z a e) : hf_At Z dA F :=
  ⟨hYZ _ _ h.1, hYZ _ _ h.2.1, hYZ _ _ h.2.2.1, fun j hj => ⟨hYZ _ _ (h.2.2.2.1 j hj).1, hYZ _ _ (h.2.2.2.1 j hj).2⟩, fun j hj => ⟨hYZ _ _ (h.2.2.2.2.1 j hj).1, hYZ _ _ (h.2.2.2.2.1 j hj).2⟩, h.2.2.2.2.2⟩
def hr_P (D : va_G) (H : Heap) : Nat → va_E → Prop := fun a e => va_at D vwCl (a, e) H
def hr_PA (D : va_G) (A : Nat → Prop) (H : Heap) : Nat → va_E → Prop := fun a e => va_at D vwCl (a, e) H ∧ ¬ A a
theorem hr_PA.now {D : va_G} {A : Nat → Prop} {H0 H : Heap} {locs : List Loc} (hS : va_S A H0 H locs) (a : Nat) (e : va_E) (h : hr_PA D A H0 a e) : hr_PA D A H a e := ⟨h.1.kept (hS.2.1 a h.1.lt h.2), h.2⟩
theorem hr_PA.P {D : va_G} {A : Nat → Prop} {H : Heap} (a : Nat) (e : va_E) (h : hr_PA D A H a e) : hr_P D H a e := h.1
theorem hr_P1 {D : va_G} {H : Heap} {a : Nat} {e : va_E} (h : va_at D vwCl (a, e) H) : va_P D vwCl [(a, e)] H := by
  intro k q hk
  match k, hk with
  | 0, hk => cases hk; exact h
  | k + 1, hk => simp at hk
def hf_U (D : va_G) (dA : Nat → ClassId) (F : hf_F) (U : State) : Prop := hf_At (hr_P D U.heap) dA F ∧ hb_K D dA U
theorem hf_blind {D : va_G} {dA : Nat → ClassId} {F : hf_F} {As : List Value} : FrameBlind (va_Pc As (hf_U D dA F)) := fun a U g mk q => ⟨q.1, q.2.1, hb_K.same (s := U) (U := U.calling g mk a) rfl q.2.2⟩
theorem hb_blind {D : va_G} {dA : Nat → ClassId} {As : List Value} : FrameBlind (va_Pc As (hb_K D dA)) := fun a U g mk q => ⟨q.1, hb_K.same (s := U) (U := U.calling g mk a) rfl q.2⟩
theorem hf_pp {D : va_G} {dA : Nat → ClassId} {F : hf_F} {H : Heap} (h : hf_At (hr_P D H) dA F) {i : Int32} (hi : vp_in i (hf_n F 5)) : va_at D vwCl (hf_a F 0 i.toNatClampNeg, .inr (28, hf_pv F i.toNatClampNeg)) H := (h.2.2.2.1 _ (Nat.not_le.mp fun q => hi (Or.inr q))).2
section HP
variable {p : Program} {l : Launch} {e : Env} {R : Room} {s : State} {m : MethodId} {args : Array Value} {below : List Frame} {meth : Method} {c : Code} {H : Heap} {locs : List Loc} {cells slots : Nat} {QQ : State → Prop}
variable {cc : ByteArray} {pc nL fr lo : Nat} {ls : Array Slot} {rest st0 : List Value} {D : va_G} {dA : Nat → ClassId} {own host : String} {a : Nat}
variable {y : MethodName} {bytes : ByteArray} {maxL fr2 lo2 idx n : Nat} {ret : Option FieldType} {As : List Value}
theorem hp_get (C : hb_C p s m args c cc nL own D dA) {ci N : Nat} {T : u_T} {CN : String} {fs : List Value} (h : va_at D vwCl (a, .inr (ci, fs)) H) (hc : vwCl[ci]? = some (CN, T, N)) (hin : ∀ w ∈ u_ws CN T N, w ∈ lw_all) (k : Nat) (hk : k < N) (q : Cond.fieldLink own idx (T k).1 (T k).2.1 (T k).2.2.1 ∈ lw_all) {v : Value} (hv : fs[k]? = some v) (hdg : decode cc pc = .ok (.getfield idx, 3)) (kk : W p l e R s m args below meth c H locs cells slots QQ (F0 m (pc + 3) ls (v :: rest))) : W p l e R s m args below meth c H locs cells slots QQ (F0 m pc ls (.ref a :: rest)) :=
  va_get (D := D) (cl := vwCl) (ci := ci) (C := CN) (T := T) (N := N) C.1.1 C.1.2.1 C.1.2.2.2.2 hin C.1.2.2.2.1 C.2.1 (hr_P1 h) 0 rfl hc k hk (C.1.2.2.2.2 _ q) (fun _ h => h) hv hdg kk
theorem hp_getN (C : hb_C p s m args c cc nL own D dA) {ci N : Nat} {T : u_T} {CN : String} {fs : List Value} (h : va_at D vwCl (a, .inr (ci, fs)) H) (hc : vwCl[ci]? = some (CN, T, N)) (hin : ∀ w ∈ u_ws CN T N, w ∈ lw_all) (k : Nat) (hk : k < N) (q : Cond.fieldLinkNest own idx (T k).1 (T k).2.1 (T k).2.2.1 host ∈ lw_tbl) {v : Value} (hv : fs[k]? = some v) (hdg : decode cc pc = .ok (.getfield idx, 3)) (kk : W p l e R s m args below meth c H locs cells slots QQ (F0 m (pc + 3) ls (v :: rest))) : W p l e R s m args below meth c H locs cells slots QQ (F0 m pc ls (.ref a :: rest)) :=
  va_getN (D := D) (cl := vwCl) (ci := ci) (C := CN) (T := T) (N := N) C.1.1 C.1.2.1 C.1.2.2.2.2 hin C.1.2.2.2.1 C.2.1 (hr_P1 h) 0 rfl hc k hk ((C.2.2.1 _ q rfl).use rfl) (fun _ h => h) hv hdg kk
theorem hp_cs (C : hb_C p s m args c cc nL own D dA) (hsz : ls.size = nL) {Q : Int32 → Unit → Prop} (hMet : Met l y (ws_ y bytes maxL ret) (hb_R fr2 lo2) (va_Pc As (hb_K D dA)) (vp_Si (fun r => Q r ())) 0 0 (fun _ => False)) (q1 : Cond.methodLink own idx y ∈ lw_all) (q2 : Cond.static y ∈ lw_all) (q4 : Cond.initialized y.cls ∈ lw_all) (q5 : Cond.code y bytes maxL ret ∈ lw_all) (hd : y.cls ≠ "java/lang/invoke/MethodHandle" ∧ y.cls ≠ "java/lang/invoke/VarHandle" ∧ (parseMethodDescriptor y.desc).map (fun d => d.parameters.length) = some n) (hn : As.length = n) (hR : fr2 + 1 ≤ R.frames ∧ 8 + (maxL + 11) + lo2 ≤ R.locals) (hcs : cells ≤ R.cells ∧ slots ≤ R.slots) (hst : st0 = As.reverse ++ rest) (hcat : (rest.map fun v => v.category).sum ≤ 8) (hdg : decode cc pc = .ok (.invokestatic idx, 3)) (kk : ∀ r : Int32, Q r () → W p l e R s m args below meth c H locs cells slots QQ (F0 m (pc + 3) ls (.int r :: rest))) : W p l e R s m args below meth c H locs cells slots QQ (F0 m pc ls (st0)) :=
  vp_callSi (va_runS (As := As) (rest := rest) C.1 hMet (va_cwS n C.1.2.2.2.2 (lw_S q1 q2 q4 q5) rfl rfl rfl hd hR) ⟨hb_blind, fun U hU hW => ⟨rfl, hb_K.warm hW C.2⟩⟩ rfl hn hsz hst (lv_room hcat) hdg hcs).run kk
theorem hp_csN (C : hb_C p s m args c cc nL own D dA) (hsz : ls.size = nL) {Q : Int32 → Unit → Prop} (hMet : Met l y (ws_ y bytes maxL ret) (hb_R fr2 lo2) (va_Pc As (hb_K D dA)) (vp_Si (fun r => Q r ())) 0 0 (fun _ => False)) (q1 : Cond.methodLinkNest own idx y host ∈ lw_tbl) (q2 : Cond.static y ∈ lw_all) (q4 : Cond.initialized y.cls ∈ lw_all) (q5 : Cond.code y bytes maxL ret ∈ lw_all) (hd : y.cls ≠ "java/lang/invoke/MethodHandle" ∧ y.cls ≠ "java/lang/invoke/VarHandle" ∧ (parseMethodDescriptor y.desc).map (fun d => d.parameters.length) = some n) (hn : As.length = n) (hR : fr2 + 1 ≤ R.frames ∧ 8 + (maxL + 11) + lo2 ≤ R.locals) (hcs : cells ≤ R.cells ∧ slots ≤ R.slots) (hst : st0 = As.reverse ++ rest) (hcat : (rest.map fun v => v.category).sum ≤ 8) (hdg : decode cc pc = .ok (.invokestatic idx, 3)) (kk : ∀ r : Int32, Q r () → W p l e R s m args below meth c H locs cells slots QQ (F0 m (pc + 3) ls (.int r :: rest))) : W p l e R s m args below meth c H locs cells slots QQ (F0 m pc ls (st0)) :=
  vp_callSi (va_runSN (As := As) (rest := rest) C.1 hMet ⟨va_cnB n C.1.2.2.2.2 (lw_meth q5) rfl rfl rfl (C.2.2.1 _ q1 rfl) (C.1.2.2.2.2 _ q4) hd hR, C.1.2.2.2.2 _ q2, trivial⟩ ⟨hb_blind, fun U hU hW => ⟨rfl, hb_K.warm hW C.2⟩⟩ rfl hn hsz hst (lv_room hcat) hdg hcs).run kk
theorem hp_cvi (C : hb_C p s m args c cc nL own D dA) (hsz : ls.size = nL) {CN : String} {T : u_T} {N ci : Nat} {fs : List Value} {PU : State → Prop} (hbl : FrameBlind (va_Pc (.ref a :: As) PU)) (hc : vwCl[ci]? = some (CN, T, N)) (h : va_at D vwCl (a, .inr (ci, fs)) H) (hpre : ∀ U : State, U.heap = H → s.WarmedH U.vm → PU U) {Q : Int32 → Unit → Prop} (hMet : Met l y (ws_ y bytes maxL ret) (hb_R fr2 lo2) (va_Pc (.ref a :: As) PU) (vp_Si (fun r => Q r ())) 0 0 (fun _ => False)) (q1 : Cond.methodLink own idx y ∈ lw_all) (q2 : Cond.instanceMethod y ∈ lw_all) (q3 : Cond.selects CN y y ∈ lw_all) (q4 : Cond.initialized CN ∈ lw_all) (q5 : Cond.code y bytes maxL ret ∈ lw_all) (hd : y.cls = CN ∧ y.cls ≠ "java/lang/invoke/MethodHandle" ∧ y.cls ≠ "java/lang/invoke/VarHandle" ∧ (parseMethodDescriptor y.desc).map (fun d => d.parameters.length) = some n) (hn : As.length = n) (hR : fr2 + 1 ≤ R.frames ∧ 8 + (maxL + 11) + lo2 ≤ R.locals) (hcs : cells ≤ R.cells ∧ slots ≤ R.slots) (hst : st0 = As.reverse ++ .ref a :: rest) (hcat : (rest.map fun v => v.category).sum ≤ 8) (hdg : decode cc pc = .ok (.invokevirtual idx, 3)) (kk : ∀ r : Int32, Q r () → W p l e R s m args below meth c H locs cells slots QQ (F0 m (pc + 3) ls (.int r :: rest))) : W p l e R s m args below meth c H locs cells slots QQ (F0 m pc ls (st0)) :=
  vp_callSi (va_runV (As := As) (rest := rest) C.1 hMet (cwV n C.1.2.2.2.2 (lw_V q1 q2 q3 q4 q5) rfl rfl rfl hd hR) ⟨hbl, va_recv C.2.1 (hr_P1 h) hc (q0 := 0) rfl, fun U hU hW => ⟨rfl, hpre U hU hW⟩⟩ rfl hn hsz hst (lv_room hcat) hdg hcs).run kk
theorem hp_cvr (C : hb_C p s m args c cc nL own D dA) (hsz : ls.size = nL) {CN : String} {T : u_T} {N ci : Nat} {fs : List Value} {PU : State → Prop} (hbl : FrameBlind (va_Pc (.ref a :: As) PU)) (hc : vwCl[ci]? = some (CN, T, N)) (h : va_at D vwCl (a, .inr (ci, fs)) H) (hpre : ∀ U : State, U.heap = H → s.WarmedH U.vm → PU U) {Q : Nat → Unit → Prop} (hMet : Met l y (ws_ y bytes maxL ret) (hb_R fr2 lo2) (va_Pc (.ref a :: As) PU) (va_Sr (fun r => Q r ()) (fun r => .ref r)) 0 0 (fun _ => False)) (q1 : Cond.methodLink own idx y ∈ lw_all) (q2 : Cond.instanceMethod y ∈ lw_all) (q3 : Cond.selects CN y y ∈ lw_all) (q4 : Cond.initialized CN ∈ lw_all) (q5 : Cond.code y bytes maxL ret ∈ lw_all) (hd : y.cls = CN ∧ y.cls ≠ "java/lang/invoke/MethodHandle" ∧ y.cls ≠ "java/lang/invoke/VarHandle" ∧ (parseMethodDescriptor y.desc).map (fun d => d.parameters.length) = some n) (hn : As.length = n) (hR : fr2 + 1 ≤ R.frames ∧ 8 + (maxL + 11) + lo2 ≤ R.locals) (hcs : cells ≤ R.cells ∧ slots ≤ R.slots) (hst : st0 = As.reverse ++ .ref a :: rest) (hcat : (rest.map fun v => v.category).sum ≤ 8) (hdg : decode cc pc = .ok (.invokevirtual idx, 3)) (kk : ∀ r : Nat, Q r () → W p l e R s m args below meth c H locs cells slots QQ (F0 m (pc + 3) ls (.ref r :: rest))) : W p l e R s m args below meth c H locs cells slots QQ (F0 m pc ls (st0)) :=
  va_csr (va_runV (As := As) (rest := rest) C.1 hMet (cwV n C.1.2.2.2.2 (lw_V q1 q2 q3 q4 q5) rfl rfl rfl hd hR) ⟨hbl, va_recv C.2.1 (hr_P1 h) hc (q0 := 0) rfl, fun U hU hW => ⟨rfl, hpre U hU hW⟩⟩ rfl hn hsz hst (lv_room hcat) hdg hcs).run kk
end HP
section HPT
variable {l : Launch} {D : va_G} {dA : Nat → ClassId} {y : MethodName} {cc : ByteArray} {nL fr lo : Nat} {vs : List Value} {LV : List (Nat × Value)} {PU : State → Prop}
theorem hp_Mi {Q : Int32 → Unit → Prop} (hK : ∀ U, PU U → hb_K D dA U) (hy : plainName y.cls = true) (hLV : lv_args 0 vs = LV) (hn : (lg_sl vs).length ≤ nL)
    (body : ∀ (p : Program) (e : Env) (s : State) (m : MethodId) (args : Array Value) (below : List Frame) (meth : Method) (c : Code) (ls : Array Slot) (QQ : State → Prop), hb_C p s m args c cc nL y.cls D dA → PU s → lv_has ls nL LV → (∀ (v : Int32) (ls : Array Slot) (pc : Nat), decode cc pc = .ok (.ireturn, 1) → Q v () → W p l e (hb_R fr lo) s m args below meth c s.heap [] 0 0 QQ (F0 m pc ls [.int v])) → W p l e (hb_R fr lo) s m args below meth c s.heap [] 0 0 QQ (F0 m 0 ls [])) :
    Met l y (ws_ y cc nL (some .int)) (hb_R fr lo) (va_Pc vs PU) (vp_Si (fun r => Q r ())) 0 0 (fun _ => False) := by
  refine Met.ofW (cc := cc) (maxL := nL) (ret := (some .int)) hy rfl ?_
  intro p e s m args below meth c s₁ B hml hv
  obtain ⟨rfl, hP⟩ := hv
  have hx := B.exec
  have hb := B.bytes
  have hr := B.returns
  have hts := atoms_spec (ws := ws_ y cc nL (some .int)) B.pre
  have hts : ∀ w ∈ lw_all, w.before _ s = true := fun w h => hts w (List.mem_cons_of_mem _ h)
  have hown : s.vm.findClass y.cls = some m.cls := findClass_of_methodNamed B.named
  have hlocks := B.notSynchronized
  have hl := lv_entry vs (n := nL) hn
  rw [lg_entry_eq]
  generalize (lg_sl vs ++ List.replicate (nL - (lg_sl vs).length) Slot.unset).toArray = ls at hl ⊢
  rw [hLV] at hl
  refine body p e s m _ below meth c ls _ ⟨⟨hx, hb, hml, hown, hts⟩, hK s hP⟩ hP hl ?_
  intro v ls pc hd hq
  exact W.iret (v := v) hx hb hr (fun t ht hW => ⟨v, rfl, hq, ht⟩) (fun _ h => by cases h) hd
theorem hp_Mz {Q : Int32 → Unit → Prop} (hK : ∀ U, PU U → hb_K D dA U) (hy : plainName y.cls = true) (hLV : lv_args 0 vs = LV) (hn : (lg_sl vs).length ≤ nL)
    (body : ∀ (p : Program) (e : Env) (s : State) (m : MethodId) (args : Array Value) (below : List Frame) (meth : Method) (c : Code) (ls : Array Slot) (QQ : State → Prop), hb_C p s m args c cc nL y.cls D dA → PU s → lv_has ls nL LV → (∀ (v : Int32) (ls : Array Slot) (pc : Nat), decode cc pc = .ok (.ireturn, 1) → hb_B v → Q v () → W p l e (hb_R fr lo) s m args below meth c s.heap [] 0 0 QQ (F0 m pc ls [.int v])) → W p l e (hb_R fr lo) s m args below meth c s.heap [] 0 0 QQ (F0 m 0 ls [])) :
    Met l y (ws_ y cc nL (some .boolean)) (hb_R fr lo) (va_Pc vs PU) (vp_Si (fun r => Q r ())) 0 0 (fun _ => False) := by
  refine Met.ofW (cc := cc) (maxL := nL) (ret := (some .boolean)) hy rfl ?_
  intro p e s m args below meth c s₁ B hml hv
  obtain ⟨rfl, hP⟩ := hv
  have hx := B.exec
  have hb := B.bytes
  have hr := B.returns
  have hts := atoms_spec (ws := ws_ y cc nL (some .boolean)) B.pre
  have hts : ∀ w ∈ lw_all, w.before _ s = true := fun w h => hts w (List.mem_cons_of_mem _ h)
  have hown : s.vm.findClass y.cls = some m.cls := findClass_of_methodNamed B.named
  have hlocks := B.notSynchronized
  have hl := lv_entry vs (n := nL) hn
  rw [lg_entry_eq]
  generalize (lg_sl vs ++ List.replicate (nL - (lg_sl vs).length) Slot.unset).toArray = ls at hl ⊢
  rw [hLV] at hl
  refine body p e s m _ below meth c ls _ ⟨⟨hx, hb, hml, hown, hts⟩, hK s hP⟩ hP hl ?_
  intro v ls pc hd hv hq
  exact W.zret (v := v) hx hb hr (hb_Bn hv) (fun t ht hW => ⟨v, rfl, hq, ht⟩) (fun _ h => by cases h) hd
end HPT
