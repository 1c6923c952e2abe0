/-! the Model: calls and ends -/
set_option maxRecDepth 100000
section HMC
variable {p : Program} {l : Launch} {e : Env} {s : State} {m : MethodId} {args : Array Value} {below : List Frame} {meth : Method} {c : Code} {H H0 : Heap} {locs : List Loc} {QQ : State → Prop}
variable {cc : ByteArray} {pc nL fr lo : Nat} {ls : Array Slot} {rest st0 : List Value} {D : va_G} {dA : Nat → ClassId} {o : Nat} {b : Nat → Nat} {σ : hm_S}
variable {y : MethodName} {bytes : ByteArray} {maxL fr2 lo2 idx n : Nat} {ret : Option FieldType} {As : List Value}
theorem hm_blind {As : List Value} : FrameBlind (va_Pc As (hm_U D dA o b σ)) := fun a U g mk q => by
  obtain ⟨q0, qP, qK⟩ := q
  exact ⟨q0, qP, hb_K.same (s := U) (U := U.calling g mk a) rfl qK⟩
/-- apartness hangs on the addresses alone -/
theorem hm_Dm {A : Nat → Prop} {σ : hm_S} (h : va_D A (hm_W o b dA σ)) (σ1 : hm_S) : va_D A (hm_W o b dA σ1) := by
  have e : ∀ τ : hm_S, (hm_W o b dA τ).map Prod.fst = (hm_W o b dA σ).map Prod.fst := fun _ => rfl
  have key : ∀ (k : Nat) (q : Nat × va_E), (hm_W o b dA σ1)[k]? = some q → ∃ q0, (hm_W o b dA σ)[k]? = some q0 ∧ q0.1 = q.1 := by
    intro k q hk
    have h1 : ((hm_W o b dA σ).map Prod.fst)[k]? = some q.1 := by rw [← e σ1, List.getElem?_map, hk]; rfl
    rw [List.getElem?_map] at h1
    cases h0 : (hm_W o b dA σ)[k]? with
    | none => rw [h0] at h1; cases h1
    | some q0 => rw [h0] at h1; exact ⟨q0, rfl, Option.some.inj h1⟩
  refine ⟨fun i j x y hi hj hxy => ?_, fun k q hk => ?_⟩
  · obtain ⟨x0, a1, a2⟩ := key i x hi
    obtain ⟨y0, b1, b2⟩ := key j y hj
    exact h.1 i j x0 y0 a1 b1 (a2.trans (hxy.trans b2.symm))
  · obtain ⟨q0, a1, a2⟩ := key k q hk
    rw [← a2]; exact h.2 k q0 a1
theorem hm_ci (C : hb_C p s m args c cc nL RX5 D dA) (M : hm_M D dA o b H0 σ H locs) (hsz : ls.size = nL) {Q : Int32 → hm_S → Prop} (hMet : Met l y (ws_ y bytes maxL ret) (hb_R fr2 lo2) (va_Pc (.ref o :: As) (hm_U D dA o b σ)) (va_Qi Q (hm_U D dA o b) (hm_A o b)) 0 0 (hm_A o b)) (q1 : Cond.methodLink RX5 idx y ∈ lw_all) (q2 : Cond.instanceMethod y ∈ lw_all) (q3 : Cond.selects RX5 y y ∈ lw_all) (q4 : Cond.initialized RX5 ∈ lw_all) (q5 : Cond.code y bytes maxL ret ∈ lw_all) (hd : y.cls = RX5 ∧ y.cls ≠ "java/lang/invoke/MethodHandle" ∧ y.cls ≠ "java/lang/invoke/VarHandle" ∧ (parseMethodDescriptor y.desc).map (fun d => d.parameters.length) = some n) (hn : As.length = n) (hR : fr2 + 1 ≤ fr ∧ 8 + (maxL + 11) + lo2 ≤ lo) (hst : st0 = As.reverse ++ .ref o :: rest) (hcat : (rest.map fun v => v.category).sum ≤ 8) (hdg : decode cc pc = .ok (.invokevirtual idx, 3)) (kk : ∀ (r : Int32) (σ1 : hm_S) (H1 : Heap) (locs1 : List Loc), Q r σ1 → hm_M D dA o b H0 σ1 H1 locs1 → W p l e (hb_R fr lo) s m args below meth c H1 locs1 0 0 QQ (F0 m (pc + 3) ls (.int r :: rest))) : W p l e (hb_R fr lo) s m args below meth c H locs 0 0 QQ (F0 m pc ls st0) := by
  refine va_calli (va_runV (As := As) (rest := rest) C.1 hMet (cwV n C.1.2.2.2.2 (lw_V q1 q2 q3 q4 q5) rfl rfl rfl hd hR) ⟨hm_blind, va_recv C.2.1 M.1 (ci := 0) (q0 := 0) rfl rfl, fun U hU hW => ⟨rfl, by rw [hU]; exact M.1, hb_K.warm hW C.2⟩⟩ rfl hn hsz hst (lv_room hcat) hdg ⟨Nat.zero_le _, Nat.zero_le _⟩) M.2.2 (fun q _ h => h) (fun q h => h) (fun r u t H1 locs1 ht hvm hw hB hz hk hS => kk r u H1 locs1 hw ?_)
  obtain ⟨hP1, hK1⟩ := hB
  rw [ht] at hP1
  exact ⟨hP1, hm_Dm M.2.1 _, hS⟩
theorem hm_csi (C : hb_C p s m args c cc nL RX5 D dA) (M : hm_M D dA o b H0 σ H locs) (hsz : ls.size = nL) {Q : Int32 → hm_S → Prop} (hMet : Met l y (ws_ y bytes maxL ret) (hb_R fr2 lo2) (va_Pc As (hm_U D dA o b σ)) (va_Qi Q (hm_U D dA o b) (hm_A o b)) 0 0 (hm_A o b)) (q1 : Cond.methodLink RX5 idx y ∈ lw_all) (q2 : Cond.static y ∈ lw_all) (q4 : Cond.initialized y.cls ∈ lw_all) (q5 : Cond.code y bytes maxL ret ∈ lw_all) (hd : y.cls ≠ "java/lang/invoke/MethodHandle" ∧ y.cls ≠ "java/lang/invoke/VarHandle" ∧ (parseMethodDescriptor y.desc).map (fun d => d.parameters.length) = some n) (hn : As.length = n) (hR : fr2 + 1 ≤ fr ∧ 8 + (maxL + 11) + lo2 ≤ lo) (hst : st0 = As.reverse ++ rest) (hcat : (rest.map fun v => v.category).sum ≤ 8) (hdg : decode cc pc = .ok (.invokestatic idx, 3)) (kk : ∀ (r : Int32) (σ1 : hm_S) (H1 : Heap) (locs1 : List Loc), Q r σ1 → hm_M D dA o b H0 σ1 H1 locs1 → W p l e (hb_R fr lo) s m args below meth c H1 locs1 0 0 QQ (F0 m (pc + 3) ls (.int r :: rest))) : W p l e (hb_R fr lo) s m args below meth c H locs 0 0 QQ (F0 m pc ls st0) := by
  refine va_calli (va_runS (As := As) (rest := rest) C.1 hMet (va_cwS n C.1.2.2.2.2 (lw_S q1 q2 q4 q5) rfl rfl rfl hd hR) ⟨hm_blind, fun U hU hW => ⟨rfl, by rw [hU]; exact M.1, hb_K.warm hW C.2⟩⟩ rfl hn hsz hst (lv_room hcat) hdg ⟨Nat.zero_le _, Nat.zero_le _⟩) M.2.2 (fun q _ h => h) (fun q h => h) (fun r u t H1 locs1 ht hvm hw hB hz hk hS => kk r u H1 locs1 hw ?_)
  obtain ⟨hP1, hK1⟩ := hB
  rw [ht] at hP1
  exact ⟨hP1, hm_Dm M.2.1 _, hS⟩
theorem hm_cv (C : hb_C p s m args c cc nL RX5 D dA) (M : hm_M D dA o b H0 σ H locs) (hsz : ls.size = nL) {Q : hm_S → Prop} (hMet : Met l y (ws_ y bytes maxL ret) (hb_R fr2 lo2) (va_Pc (.ref o :: As) (hm_U D dA o b σ)) (va_Qv Q (hm_U D dA o b) (hm_A o b)) 0 0 (hm_A o b)) (q1 : Cond.methodLink RX5 idx y ∈ lw_all) (q2 : Cond.instanceMethod y ∈ lw_all) (q3 : Cond.selects RX5 y y ∈ lw_all) (q4 : Cond.initialized RX5 ∈ lw_all) (q5 : Cond.code y bytes maxL ret ∈ lw_all) (hd : y.cls = RX5 ∧ y.cls ≠ "java/lang/invoke/MethodHandle" ∧ y.cls ≠ "java/lang/invoke/VarHandle" ∧ (parseMethodDescriptor y.desc).map (fun d => d.parameters.length) = some n) (hn : As.length = n) (hR : fr2 + 1 ≤ fr ∧ 8 + (maxL + 11) + lo2 ≤ lo) (hst : st0 = As.reverse ++ .ref o :: rest) (hcat : (rest.map fun v => v.category).sum ≤ 8) (hdg : decode cc pc = .ok (.invokevirtual idx, 3)) (kk : ∀ (σ1 : hm_S) (H1 : Heap) (locs1 : List Loc), Q σ1 → hm_M D dA o b H0 σ1 H1 locs1 → W p l e (hb_R fr lo) s m args below meth c H1 locs1 0 0 QQ (F0 m (pc + 3) ls rest)) : W p l e (hb_R fr lo) s m args below meth c H locs 0 0 QQ (F0 m pc ls st0) := by
  refine va_callv (va_runV (As := As) (rest := rest) C.1 hMet (cwV n C.1.2.2.2.2 (lw_V q1 q2 q3 q4 q5) rfl rfl rfl hd hR) ⟨hm_blind, va_recv C.2.1 M.1 (ci := 0) (q0 := 0) rfl rfl, fun U hU hW => ⟨rfl, by rw [hU]; exact M.1, hb_K.warm hW C.2⟩⟩ rfl hn hsz hst (lv_room hcat) hdg ⟨Nat.zero_le _, Nat.zero_le _⟩) M.2.2 (fun q _ h => h) (fun q h => h) (fun u t H1 locs1 ht hvm hw hB hz hk hS => kk u H1 locs1 hw ?_)
  obtain ⟨hP1, hK1⟩ := hB
  rw [ht] at hP1
  exact ⟨hP1, hm_Dm M.2.1 _, hS⟩
theorem hm_csv (C : hb_C p s m args c cc nL RX5 D dA) (M : hm_M D dA o b H0 σ H locs) (hsz : ls.size = nL) {Q : hm_S → Prop} (hMet : Met l y (ws_ y bytes maxL ret) (hb_R fr2 lo2) (va_Pc As (hm_U D dA o b σ)) (va_Qv Q (hm_U D dA o b) (hm_A o b)) 0 0 (hm_A o b)) (q1 : Cond.methodLink RX5 idx y ∈ lw_all) (q2 : Cond.static y ∈ lw_all) (q4 : Cond.initialized y.cls ∈ lw_all) (q5 : Cond.code y bytes maxL ret ∈ lw_all) (hd : y.cls ≠ "java/lang/invoke/MethodHandle" ∧ y.cls ≠ "java/lang/invoke/VarHandle" ∧ (parseMethodDescriptor y.desc).map (fun d => d.parameters.length) = some n) (hn : As.length = n) (hR : fr2 + 1 ≤ fr ∧ 8 + (maxL + 11) + lo2 ≤ lo) (hst : st0 = As.reverse ++ rest) (hcat : (rest.map fun v => v.category).sum ≤ 8) (hdg : decode cc pc = .ok (.invokestatic idx, 3)) (kk : ∀ (σ1 : hm_S) (H1 : Heap) (locs1 : List Loc), Q σ1 → hm_M D dA o b H0 σ1 H1 locs1 → W p l e (hb_R fr lo) s m args below meth c H1 locs1 0 0 QQ (F0 m (pc + 3) ls rest)) : W p l e (hb_R fr lo) s m args below meth c H locs 0 0 QQ (F0 m pc ls st0) := by
  refine va_callv (va_runS (As := As) (rest := rest) C.1 hMet (va_cwS n C.1.2.2.2.2 (lw_S q1 q2 q4 q5) rfl rfl rfl hd hR) ⟨hm_blind, fun U hU hW => ⟨rfl, by rw [hU]; exact M.1, hb_K.warm hW C.2⟩⟩ rfl hn hsz hst (lv_room hcat) hdg ⟨Nat.zero_le _, Nat.zero_le _⟩) M.2.2 (fun q _ h => h) (fun q h => h) (fun u t H1 locs1 ht hvm hw hB hz hk hS => kk u H1 locs1 hw ?_)
  obtain ⟨hP1, hK1⟩ := hB
  rw [ht] at hP1
  exact ⟨hP1, hm_Dm M.2.1 _, hS⟩
end HMC
section HMT
variable {l : Launch} {D : va_G} {dA : Nat → ClassId} {o : Nat} {b : Nat → Nat} {σ : hm_S} {y : MethodName} {cc : ByteArray} {nL fr lo : Nat} {vs : List Value} {LV : List (Nat × Value)}
theorem hm_Mi (hB : hm_D dA o b) {Q : Int32 → hm_S → Prop} (hy : plainName y.cls = true) (hLV : lv_args 0 vs = LV) (hn : (lg_sl vs).length ≤ nL)
    (body : ∀ (p : Program) (e : Env) (s : State) (m : MethodId) (args : Array Value) (below : List Frame) (meth : Method) (c : Code) (ls : Array Slot) (QQ : State → Prop), hb_C p s m args c cc nL y.cls D dA → hm_M D dA o b s.heap σ s.heap [] → lv_has ls nL LV → (∀ (v : Int32) (σ1 : hm_S) (H : Heap) (locs : List Loc) (ls : Array Slot) (pc : Nat), decode cc pc = .ok (.ireturn, 1) → hm_M D dA o b s.heap σ1 H locs → Q v σ1 → W p l e (hb_R fr lo) s m args below meth c H locs 0 0 QQ (F0 m pc ls [.int v])) → W p l e (hb_R fr lo) s m args below meth c s.heap [] 0 0 QQ (F0 m 0 ls [])) :
    Met l y (ws_ y cc nL (some .int)) (hb_R fr lo) (va_Pc vs (hm_U D dA o b σ)) (va_Qi Q (hm_U D dA o b) (hm_A o b)) 0 0 (hm_A o b) := by
  refine Met.ofW (cc := cc) (maxL := nL) (ret := (some .int)) hy rfl ?_
  intro p e s m args below meth c s₁ B hml hv
  obtain ⟨rfl, hP, hK⟩ := hv
  have hx := B.exec
  have hb := B.bytes
  have hr := B.returns
  have hts := atoms_spec (ws := ws_ y cc nL (some .int)) B.pre
  have hts : ∀ w ∈ lw_all, w.before _ s = true := fun w h => hts w (List.mem_cons_of_mem _ h)
  have hown : s.vm.findClass y.cls = some m.cls := findClass_of_methodNamed B.named
  have hlocks := B.notSynchronized
  have hl := lv_entry vs (n := nL) hn
  rw [lg_entry_eq]
  generalize (lg_sl vs ++ List.replicate (nL - (lg_sl vs).length) Slot.unset).toArray = ls at hl ⊢
  rw [hLV] at hl
  refine body p e s m _ below meth c ls _ ⟨⟨hx, hb, hml, hown, hts⟩, hK⟩ ⟨hP, hB σ, va_S.rf⟩ hl ?_
  intro v σ1 H locs ls pc hd M hq
  exact W.iret (v := v) hx hb hr (fun t ht hW => ⟨⟨v, σ1, rfl, hq, by rw [ht]; exact M.1, hb_K.warm hW hK⟩, M.2.2.F ht⟩) M.2.2.2.2 hd
theorem hm_Mz (hB : hm_D dA o b) {Q : Int32 → hm_S → Prop} (hy : plainName y.cls = true) (hLV : lv_args 0 vs = LV) (hn : (lg_sl vs).length ≤ nL)
    (body : ∀ (p : Program) (e : Env) (s : State) (m : MethodId) (args : Array Value) (below : List Frame) (meth : Method) (c : Code) (ls : Array Slot) (QQ : State → Prop), hb_C p s m args c cc nL y.cls D dA → hm_M D dA o b s.heap σ s.heap [] → lv_has ls nL LV → (∀ (v : Int32) (σ1 : hm_S) (H : Heap) (locs : List Loc) (ls : Array Slot) (pc : Nat), decode cc pc = .ok (.ireturn, 1) → hm_M D dA o b s.heap σ1 H locs → hb_B v → Q v σ1 → W p l e (hb_R fr lo) s m args below meth c H locs 0 0 QQ (F0 m pc ls [.int v])) → W p l e (hb_R fr lo) s m args below meth c s.heap [] 0 0 QQ (F0 m 0 ls [])) :
    Met l y (ws_ y cc nL (some .boolean)) (hb_R fr lo) (va_Pc vs (hm_U D dA o b σ)) (va_Qi Q (hm_U D dA o b) (hm_A o b)) 0 0 (hm_A o b) := by
  refine Met.ofW (cc := cc) (maxL := nL) (ret := (some .boolean)) hy rfl ?_
  intro p e s m args below meth c s₁ B hml hv
  obtain ⟨rfl, hP, hK⟩ := hv
  have hx := B.exec
  have hb := B.bytes
  have hr := B.returns
  have hts := atoms_spec (ws := ws_ y cc nL (some .boolean)) B.pre
  have hts : ∀ w ∈ lw_all, w.before _ s = true := fun w h => hts w (List.mem_cons_of_mem _ h)
  have hown : s.vm.findClass y.cls = some m.cls := findClass_of_methodNamed B.named
  have hlocks := B.notSynchronized
  have hl := lv_entry vs (n := nL) hn
  rw [lg_entry_eq]
  generalize (lg_sl vs ++ List.replicate (nL - (lg_sl vs).length) Slot.unset).toArray = ls at hl ⊢
  rw [hLV] at hl
  refine body p e s m _ below meth c ls _ ⟨⟨hx, hb, hml, hown, hts⟩, hK⟩ ⟨hP, hB σ, va_S.rf⟩ hl ?_
  intro v σ1 H locs ls pc hd M hv hq
  exact W.zret (v := v) hx hb hr (hb_Bn hv) (fun t ht hW => ⟨⟨v, σ1, rfl, hq, by rw [ht]; exact M.1, hb_K.warm hW hK⟩, M.2.2.F ht⟩) M.2.2.2.2 hd
theorem hm_Mv (hB : hm_D dA o b) {Q : hm_S → Prop} (hy : plainName y.cls = true) (hLV : lv_args 0 vs = LV) (hn : (lg_sl vs).length ≤ nL)
    (body : ∀ (p : Program) (e : Env) (s : State) (m : MethodId) (args : Array Value) (below : List Frame) (meth : Method) (c : Code) (ls : Array Slot) (QQ : State → Prop), hb_C p s m args c cc nL y.cls D dA → hm_M D dA o b s.heap σ s.heap [] → lv_has ls nL LV → (∀ (σ1 : hm_S) (H : Heap) (locs : List Loc) (ls : Array Slot) (pc : Nat), decode cc pc = .ok (.return_, 1) → hm_M D dA o b s.heap σ1 H locs → Q σ1 → W p l e (hb_R fr lo) s m args below meth c H locs 0 0 QQ (F0 m pc ls [])) → W p l e (hb_R fr lo) s m args below meth c s.heap [] 0 0 QQ (F0 m 0 ls [])) :
    Met l y (ws_ y cc nL none) (hb_R fr lo) (va_Pc vs (hm_U D dA o b σ)) (va_Qv Q (hm_U D dA o b) (hm_A o b)) 0 0 (hm_A o b) := by
  refine Met.ofW (cc := cc) (maxL := nL) (ret := none) hy rfl ?_
  intro p e s m args below meth c s₁ B hml hv
  obtain ⟨rfl, hP, hK⟩ := hv
  have hx := B.exec
  have hb := B.bytes
  have hr := B.returns
  have hts := atoms_spec (ws := ws_ y cc nL none) B.pre
  have hts : ∀ w ∈ lw_all, w.before _ s = true := fun w h => hts w (List.mem_cons_of_mem _ h)
  have hown : s.vm.findClass y.cls = some m.cls := findClass_of_methodNamed B.named
  have hlocks := B.notSynchronized
  have hl := lv_entry vs (n := nL) hn
  rw [lg_entry_eq]
  generalize (lg_sl vs ++ List.replicate (nL - (lg_sl vs).length) Slot.unset).toArray = ls at hl ⊢
  rw [hLV] at hl
  refine body p e s m _ below meth c ls _ ⟨⟨hx, hb, hml, hown, hts⟩, hK⟩ ⟨hP, hB σ, va_S.rf⟩ hl ?_
  intro σ1 H locs ls pc hd M hq
  exact W.vret hx hb hr (fun t ht hW => ⟨⟨σ1, rfl, hq, by rw [ht]; exact M.1, hb_K.warm hW hK⟩, M.2.2.F ht⟩) M.2.2.2.2 hd
end HMT
/-! switches -/
section HSW
variable {p : Program} {l : Launch} {e : Env} {R : Room} {s : State} {m : MethodId} {args : Array Value} {below : List Frame} {meth : Method} {c : Code} {H : Heap} {locs : List Loc} {cells slots : Nat} {QQ : State → Prop} {cc : ByteArray} {pc : Nat} {ls : Array Slot} {rest : List Value}
theorem hb_sw (hx : p.tables.exec = Jvm.exec) (hb : c.code = cc) {dflt lo hi : Int} {offs : Array Int} {len : Nat} {x : Int32} {off : Int} {tgt : Nat} (k : Int32) (hk : x = k) (hdg : decode cc pc = .ok (.tableswitch dflt lo hi offs, len)) (h1 : ¬ k.toInt < lo) (h2 : ¬ hi < k.toInt) (ho : offs[(k.toInt - lo).toNat]? = some off) (ht : (pc : Int) + off = (tgt : Int))
    (kk : W p l e R s m args below meth c H locs cells slots QQ (F0 m tgt ls rest)) : W p l e R s m args below meth c H locs cells slots QQ (F0 m pc ls (.int x :: rest)) := by
  subst hk
  exact lv_tableIn hx hb hdg h1 h2 ho ht kk
theorem hb_swo {x : Int32} {lo hi : Int} (h : ∀ j : Int, lo ≤ j → j ≤ hi → ¬ x = Int32.ofInt j) : x.toInt < lo ∨ hi < x.toInt := by
  rcases Int.lt_or_le x.toInt lo with a | a
  · exact Or.inl a
  · rcases Int.lt_or_le hi x.toInt with d | d
    · exact Or.inr d
    · exact absurd (Int32.ofInt_toInt x).symm (h x.toInt a d)
end HSW
