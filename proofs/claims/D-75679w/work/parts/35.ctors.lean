/-! makers that only set fields of the one object -/
set_option maxRecDepth 100000
def hn_U (D : va_G) (dA : Nat → ClassId) (ws : va_W) (U : State) : Prop := va_P D vwCl ws U.heap ∧ hb_K D dA U
theorem hn_blind {D : va_G} {dA : Nat → ClassId} {ws : va_W} {As : List Value} : FrameBlind (va_Pc As (hn_U D dA ws)) := fun v U g mk q => ⟨q.1, q.2.1, hb_K.same (s := U) (U := U.calling g mk v) rfl q.2.2⟩
theorem hn_D1 {q : Nat} {e : va_E} : va_D (fun z => z = q) [(q, e)] := by
  refine ⟨fun i j p r hi hj _ => ?_, fun k r hk => ?_⟩
  · have h1 := (List.getElem?_eq_some_iff.mp hi).1
    have h2 := (List.getElem?_eq_some_iff.mp hj).1
    simp only [List.length_cons, List.length_nil] at h1 h2
    omega
  · match k, hk with
    | 0, hk => cases hk; rfl
    | k + 1, hk => simp at hk
set_option maxHeartbeats 4000000 in
theorem hn_X11_init_X13 (l : Launch) (D : va_G) (dA : Nat → ClassId) (q : Nat)  : Met l yX11_init (ws_ yX11_init cX11_init 1 none) (hb_R 1 12) (va_Pc [.ref q] (hn_U D dA [(q, .inr (9, [.int 0]))])) (va_Qv (fun _ : Unit => True) (fun _ t => va_P D vwCl [(q, .inr (9, [.int 0]))] t.heap) (fun z => z = q)) 0 0 (fun z => z = q) := by
  refine Met.ofW (cc := cX11_init) (maxL := 1) (ret := none) (by decide) rfl ?_
  intro p e s m args below meth c s₁ B hml hv
  obtain ⟨rfl, hP, hK⟩ := hv
  have hx := B.exec
  have hb := B.bytes
  have hr := B.returns
  have hts := atoms_spec (ws := ws_ yX11_init cX11_init 1 none) B.pre
  have hts : ∀ w ∈ lw_all, w.before _ s = true := fun w h => hts w (List.mem_cons_of_mem _ h)
  have hown : s.vm.findClass RX11 = some m.cls := findClass_of_methodNamed B.named
  have hlocks := B.notSynchronized
  have hin : meth.name = "<init>" := (name_of_methodNamed B.named B.method).1
  have hl := lv_entry [.ref q] (n := 1) (Nat.le_of_ble_eq_true rfl)
  rw [lg_entry_eq]
  generalize (lg_sl [.ref q] ++ List.replicate (1 - (lg_sl [.ref q]).length) Slot.unset).toArray = ls at hl ⊢
  have hl : lv_has ls 1 [(0, .ref q)] := hl
  have hS : va_S (fun z => z = q) s.heap s.heap [] := va_S.rf
  have hD : va_D (fun z => z = q) [(q, .inr (9, [.int 0]))] := hn_D1
  refine lv_aload_n hx hb dX11_init_0 rfl (lv_at hl 0 rfl) ?_
  refine W.objInit hx hb hown (hts _ q1248) (hts _ q180) (hts _ q181) rfl (by rw [hml]; exact hl.1) rfl dX11_init_1 (Nat.le_of_ble_eq_true rfl) (Nat.le_of_ble_eq_true rfl) ?_
  refine W.eq (g2 := F0 m 4 ls []) rfl ?_
  exact W.vret hx hb hr (fun t ht hW => ⟨⟨(), rfl, trivial, by show va_P D vwCl _ t.heap; rw [ht]; exact hP⟩, hS.F ht⟩) hS.2.2 dX11_init_4
set_option maxHeartbeats 4000000 in
theorem hn_X12_init_X13 (l : Launch) (D : va_G) (dA : Nat → ClassId) (q : Nat) (a1 : Int32) : Met l yX12_init (ws_ yX12_init cX12_init 2 none) (hb_R 2 32) (va_Pc [.ref q, .int a1] (hn_U D dA [(q, .inr (9, [.int 0]))])) (va_Qv (fun _ : Unit => True) (fun _ t => va_P D vwCl [(q, .inr (9, [.int a1]))] t.heap) (fun z => z = q)) 0 0 (fun z => z = q) := by
  refine Met.ofW (cc := cX12_init) (maxL := 2) (ret := none) (by decide) rfl ?_
  intro p e s m args below meth c s₁ B hml hv
  obtain ⟨rfl, hP, hK⟩ := hv
  have hx := B.exec
  have hb := B.bytes
  have hr := B.returns
  have hts := atoms_spec (ws := ws_ yX12_init cX12_init 2 none) B.pre
  have hts : ∀ w ∈ lw_all, w.before _ s = true := fun w h => hts w (List.mem_cons_of_mem _ h)
  have hown : s.vm.findClass RX12 = some m.cls := findClass_of_methodNamed B.named
  have hlocks := B.notSynchronized
  have hin : meth.name = "<init>" := (name_of_methodNamed B.named B.method).1
  have hl := lv_entry [.ref q, .int a1] (n := 2) (Nat.le_of_ble_eq_true rfl)
  rw [lg_entry_eq]
  generalize (lg_sl [.ref q, .int a1] ++ List.replicate (2 - (lg_sl [.ref q, .int a1]).length) Slot.unset).toArray = ls at hl ⊢
  have hl : lv_has ls 2 [(0, .ref q), (1, .int a1)] := hl
  have hS : va_S (fun z => z = q) s.heap s.heap [] := va_S.rf
  have hD : va_D (fun z => z = q) [(q, .inr (9, [.int 0]))] := hn_D1
  refine lv_aload_n hx hb dX12_init_0 rfl (lv_at hl 0 rfl) ?_
  refine va_callv (va_runIN (As := []) (rest := []) ⟨hx, hb, hml, hown, hts⟩ (hn_X11_init_X13 l D dA q  ) ⟨va_cnB 0 hts (lw_meth q1247) rfl rfl rfl (hK.2.1 _ q1245 rfl) (hts _ q156) (by decide +kernel) ⟨Nat.le_of_ble_eq_true rfl, Nat.le_of_ble_eq_true rfl⟩, rfl, hts _ q1246⟩ ⟨hn_blind, fun U hU hW => ⟨rfl, by rw [hU]; exact hP, hb_K.warm hW hK⟩⟩ rfl rfl hl.1 rfl (lv_room (Nat.le_of_ble_eq_true rfl)) dX12_init_1 ⟨Nat.zero_le _, Nat.zero_le _⟩) hS (fun _ _ h => h) (fun _ h => h) (fun u t H1 locs ht hvm hw hB hz hk hS => ?_)
  have hP : va_P D vwCl [(q, .inr (9, [.int 0]))] H1 := by rw [← ht]; exact hB
  have hD : va_D (fun z => z = q) [(q, .inr (9, [.int 0]))] := hn_D1
  generalize H1 = H at hP hS ⊢
  refine lv_aload_n hx hb dX12_init_4 rfl (lv_at hl 0 rfl) ?_
  refine lv_iload_n hx hb dX12_init_5 rfl (lv_at hl 1 rfl) ?_
  refine va_putF (D := D) (ci := 9) (v := .int a1) (ty := .int) (C := RX13) (T := TX13) (N := 1) hx hb hts in_X13 tyX13 tyX13_ok nmX13 hown hK.1 hP hD hS 0 rfl rfl 0 (by decide) (hts _ q1249) (fun _ h9 => h9) rfl hin rfl (by decide +kernel) rfl rfl (Nat.le_of_ble_eq_true rfl) dX12_init_6 (fun H locs hP hD hS => ?_)
  have hP : va_P D vwCl [(q, .inr (9, [.int a1]))] H := hP
  have hD : va_D (fun z => z = q) [(q, .inr (9, [.int a1]))] := hD
  exact W.vret hx hb hr (fun t ht hW => ⟨⟨(), rfl, trivial, by show va_P D vwCl _ t.heap; rw [ht]; exact hP⟩, hS.F ht⟩) hS.2.2 dX12_init_9
set_option maxHeartbeats 4000000 in
theorem hn_X13_init_X13 (l : Launch) (D : va_G) (dA : Nat → ClassId) (q : Nat) (a1 : Int32) : Met l yX13_init (ws_ yX13_init cX13_init 2 none) (hb_R 3 53) (va_Pc [.ref q, .int a1] (hn_U D dA [(q, .inr (9, [.int 0]))])) (va_Qv (fun _ : Unit => True) (fun _ t => va_P D vwCl [(q, .inr (9, [.int a1]))] t.heap) (fun z => z = q)) 0 0 (fun z => z = q) := by
  refine Met.ofW (cc := cX13_init) (maxL := 2) (ret := none) (by decide) rfl ?_
  intro p e s m args below meth c s₁ B hml hv
  obtain ⟨rfl, hP, hK⟩ := hv
  have hx := B.exec
  have hb := B.bytes
  have hr := B.returns
  have hts := atoms_spec (ws := ws_ yX13_init cX13_init 2 none) B.pre
  have hts : ∀ w ∈ lw_all, w.before _ s = true := fun w h => hts w (List.mem_cons_of_mem _ h)
  have hown : s.vm.findClass RX13 = some m.cls := findClass_of_methodNamed B.named
  have hlocks := B.notSynchronized
  have hin : meth.name = "<init>" := (name_of_methodNamed B.named B.method).1
  have hl := lv_entry [.ref q, .int a1] (n := 2) (Nat.le_of_ble_eq_true rfl)
  rw [lg_entry_eq]
  generalize (lg_sl [.ref q, .int a1] ++ List.replicate (2 - (lg_sl [.ref q, .int a1]).length) Slot.unset).toArray = ls at hl ⊢
  have hl : lv_has ls 2 [(0, .ref q), (1, .int a1)] := hl
  have hS : va_S (fun z => z = q) s.heap s.heap [] := va_S.rf
  have hD : va_D (fun z => z = q) [(q, .inr (9, [.int 0]))] := hn_D1
  refine lv_aload_n hx hb dX13_init_0 rfl (lv_at hl 0 rfl) ?_
  refine lv_iload_n hx hb dX13_init_1 rfl (lv_at hl 1 rfl) ?_
  refine va_callv (va_runI (As := [.int a1]) (rest := []) ⟨hx, hb, hml, hown, hts⟩ (hn_X12_init_X13 l D dA q a1 ) (cwI 1 hts (lw_meth q1244) rfl rfl rfl (hts _ q157) (hts _ q1242) (hts _ q1243) rfl (by decide +kernel) ⟨Nat.le_of_ble_eq_true rfl, Nat.le_of_ble_eq_true rfl⟩) ⟨hn_blind, fun U hU hW => ⟨rfl, by rw [hU]; exact hP, hb_K.warm hW hK⟩⟩ rfl rfl hl.1 rfl (lv_room (Nat.le_of_ble_eq_true rfl)) dX13_init_2 ⟨Nat.zero_le _, Nat.zero_le _⟩) hS (fun _ _ h => h) (fun _ h => h) (fun u t H1 locs ht hvm hw hB hz hk hS => ?_)
  have hP : va_P D vwCl [(q, .inr (9, [.int a1]))] H1 := by rw [← ht]; exact hB
  have hD : va_D (fun z => z = q) [(q, .inr (9, [.int a1]))] := hn_D1
  generalize H1 = H at hP hS ⊢
  exact W.vret hx hb hr (fun t ht hW => ⟨⟨(), rfl, trivial, by show va_P D vwCl _ t.heap; rw [ht]; exact hP⟩, hS.F ht⟩) hS.2.2 dX13_init_5
set_option maxHeartbeats 4000000 in
theorem hn_X11_init_X19 (l : Launch) (D : va_G) (dA : Nat → ClassId) (q : Nat)  : Met l yX11_init (ws_ yX11_init cX11_init 1 none) (hb_R 1 12) (va_Pc [.ref q] (hn_U D dA [(q, .inr (14, [.int 0, .int 0]))])) (va_Qv (fun _ : Unit => True) (fun _ t => va_P D vwCl [(q, .inr (14, [.int 0, .int 0]))] t.heap) (fun z => z = q)) 0 0 (fun z => z = q) := by
  refine Met.ofW (cc := cX11_init) (maxL := 1) (ret := none) (by decide) rfl ?_
  intro p e s m args below meth c s₁ B hml hv
  obtain ⟨rfl, hP, hK⟩ := hv
  have hx := B.exec
  have hb := B.bytes
  have hr := B.returns
  have hts := atoms_spec (ws := ws_ yX11_init cX11_init 1 none) B.pre
  have hts : ∀ w ∈ lw_all, w.before _ s = true := fun w h => hts w (List.mem_cons_of_mem _ h)
  have hown : s.vm.findClass RX11 = some m.cls := findClass_of_methodNamed B.named
  have hlocks := B.notSynchronized
  have hin : meth.name = "<init>" := (name_of_methodNamed B.named B.method).1
  have hl := lv_entry [.ref q] (n := 1) (Nat.le_of_ble_eq_true rfl)
  rw [lg_entry_eq]
  generalize (lg_sl [.ref q] ++ List.replicate (1 - (lg_sl [.ref q]).length) Slot.unset).toArray = ls at hl ⊢
  have hl : lv_has ls 1 [(0, .ref q)] := hl
  have hS : va_S (fun z => z = q) s.heap s.heap [] := va_S.rf
  have hD : va_D (fun z => z = q) [(q, .inr (14, [.int 0, .int 0]))] := hn_D1
  refine lv_aload_n hx hb dX11_init_0 rfl (lv_at hl 0 rfl) ?_
  refine W.objInit hx hb hown (hts _ q1248) (hts _ q180) (hts _ q181) rfl (by rw [hml]; exact hl.1) rfl dX11_init_1 (Nat.le_of_ble_eq_true rfl) (Nat.le_of_ble_eq_true rfl) ?_
  refine W.eq (g2 := F0 m 4 ls []) rfl ?_
  exact W.vret hx hb hr (fun t ht hW => ⟨⟨(), rfl, trivial, by show va_P D vwCl _ t.heap; rw [ht]; exact hP⟩, hS.F ht⟩) hS.2.2 dX11_init_4
set_option maxHeartbeats 4000000 in
theorem hn_X12_init_X19 (l : Launch) (D : va_G) (dA : Nat → ClassId) (q : Nat) (a1 : Int32) : Met l yX12_init (ws_ yX12_init cX12_init 2 none) (hb_R 2 32) (va_Pc [.ref q, .int a1] (hn_U D dA [(q, .inr (14, [.int 0, .int 0]))])) (va_Qv (fun _ : Unit => True) (fun _ t => va_P D vwCl [(q, .inr (14, [.int 0, .int a1]))] t.heap) (fun z => z = q)) 0 0 (fun z => z = q) := by
  refine Met.ofW (cc := cX12_init) (maxL := 2) (ret := none) (by decide) rfl ?_
  intro p e s m args below meth c s₁ B hml hv
  obtain ⟨rfl, hP, hK⟩ := hv
  have hx := B.exec
  have hb := B.bytes
  have hr := B.returns
  have hts := atoms_spec (ws := ws_ yX12_init cX12_init 2 none) B.pre
  have hts : ∀ w ∈ lw_all, w.before _ s = true := fun w h => hts w (List.mem_cons_of_mem _ h)
  have hown : s.vm.findClass RX12 = some m.cls := findClass_of_methodNamed B.named
  have hlocks := B.notSynchronized
  have hin : meth.name = "<init>" := (name_of_methodNamed B.named B.method).1
  have hl := lv_entry [.ref q, .int a1] (n := 2) (Nat.le_of_ble_eq_true rfl)
  rw [lg_entry_eq]
  generalize (lg_sl [.ref q, .int a1] ++ List.replicate (2 - (lg_sl [.ref q, .int a1]).length) Slot.unset).toArray = ls at hl ⊢
  have hl : lv_has ls 2 [(0, .ref q), (1, .int a1)] := hl
  have hS : va_S (fun z => z = q) s.heap s.heap [] := va_S.rf
  have hD : va_D (fun z => z = q) [(q, .inr (14, [.int 0, .int 0]))] := hn_D1
  refine lv_aload_n hx hb dX12_init_0 rfl (lv_at hl 0 rfl) ?_
  refine va_callv (va_runIN (As := []) (rest := []) ⟨hx, hb, hml, hown, hts⟩ (hn_X11_init_X19 l D dA q  ) ⟨va_cnB 0 hts (lw_meth q1247) rfl rfl rfl (hK.2.1 _ q1245 rfl) (hts _ q156) (by decide +kernel) ⟨Nat.le_of_ble_eq_true rfl, Nat.le_of_ble_eq_true rfl⟩, rfl, hts _ q1246⟩ ⟨hn_blind, fun U hU hW => ⟨rfl, by rw [hU]; exact hP, hb_K.warm hW hK⟩⟩ rfl rfl hl.1 rfl (lv_room (Nat.le_of_ble_eq_true rfl)) dX12_init_1 ⟨Nat.zero_le _, Nat.zero_le _⟩) hS (fun _ _ h => h) (fun _ h => h) (fun u t H1 locs ht hvm hw hB hz hk hS => ?_)
  have hP : va_P D vwCl [(q, .inr (14, [.int 0, .int 0]))] H1 := by rw [← ht]; exact hB
  have hD : va_D (fun z => z = q) [(q, .inr (14, [.int 0, .int 0]))] := hn_D1
  generalize H1 = H at hP hS ⊢
  refine lv_aload_n hx hb dX12_init_4 rfl (lv_at hl 0 rfl) ?_
  refine lv_iload_n hx hb dX12_init_5 rfl (lv_at hl 1 rfl) ?_
  refine va_putF (D := D) (ci := 14) (v := .int a1) (ty := .int) (C := RX19) (T := TX19) (N := 2) hx hb hts in_X19 tyX19 tyX19_ok nmX19 hown hK.1 hP hD hS 0 rfl rfl 1 (by decide) (hts _ q1249) (fun _ h9 => h9) rfl hin rfl (by decide +kernel) rfl rfl (Nat.le_of_ble_eq_true rfl) dX12_init_6 (fun H locs hP hD hS => ?_)
  have hP : va_P D vwCl [(q, .inr (14, [.int 0, .int a1]))] H := hP
  have hD : va_D (fun z => z = q) [(q, .inr (14, [.int 0, .int a1]))] := hD
  exact W.vret hx hb hr (fun t ht hW => ⟨⟨(), rfl, trivial, by show va_P D vwCl _ t.heap; rw [ht]; exact hP⟩, hS.F ht⟩) hS.2.2 dX12_init_9
set_option maxHeartbeats 4000000 in
theorem hn_X14_init_X19 (l : Launch) (D : va_G) (dA : Nat → ClassId) (q : Nat) (a1 : Int32) (a2 : Int32) : Met l yX14_init (ws_ yX14_init cX14_init 3 none) (hb_R 3 53) (va_Pc [.ref q, .int a1, .int a2] (hn_U D dA [(q, .inr (14, [.int 0, .int 0]))])) (va_Qv (fun _ : Unit => True) (fun _ t => va_P D vwCl [(q, .inr (14, [.int a2, .int a1]))] t.heap) (fun z => z = q)) 0 0 (fun z => z = q) := by
  refine Met.ofW (cc := cX14_init) (maxL := 3) (ret := none) (by decide) rfl ?_
  intro p e s m args below meth c s₁ B hml hv
  obtain ⟨rfl, hP, hK⟩ := hv
  have hx := B.exec
  have hb := B.bytes
  have hr := B.returns
  have hts := atoms_spec (ws := ws_ yX14_init cX14_init 3 none) B.pre
  have hts : ∀ w ∈ lw_all, w.before _ s = true := fun w h => hts w (List.mem_cons_of_mem _ h)
  have hown : s.vm.findClass RX14 = some m.cls := findClass_of_methodNamed B.named
  have hlocks := B.notSynchronized
  have hin : meth.name = "<init>" := (name_of_methodNamed B.named B.method).1
  have hl := lv_entry [.ref q, .int a1, .int a2] (n := 3) (Nat.le_of_ble_eq_true rfl)
  rw [lg_entry_eq]
  generalize (lg_sl [.ref q, .int a1, .int a2] ++ List.replicate (3 - (lg_sl [.ref q, .int a1, .int a2]).length) Slot.unset).toArray = ls at hl ⊢
  have hl : lv_has ls 3 [(0, .ref q), (1, .int a1), (2, .int a2)] := hl
  have hS : va_S (fun z => z = q) s.heap s.heap [] := va_S.rf
  have hD : va_D (fun z => z = q) [(q, .inr (14, [.int 0, .int 0]))] := hn_D1
  refine lv_aload_n hx hb dX14_init_0 rfl (lv_at hl 0 rfl) ?_
  refine lv_iload_n hx hb dX14_init_1 rfl (lv_at hl 1 rfl) ?_
  refine va_callv (va_runI (As := [.int a1]) (rest := []) ⟨hx, hb, hml, hown, hts⟩ (hn_X12_init_X19 l D dA q a1 ) (cwI 1 hts (lw_meth q1244) rfl rfl rfl (hts _ q157) (hts _ q1430) (hts _ q1243) rfl (by decide +kernel) ⟨Nat.le_of_ble_eq_true rfl, Nat.le_of_ble_eq_true rfl⟩) ⟨hn_blind, fun U hU hW => ⟨rfl, by rw [hU]; exact hP, hb_K.warm hW hK⟩⟩ rfl rfl hl.1 rfl (lv_room (Nat.le_of_ble_eq_true rfl)) dX14_init_2 ⟨Nat.zero_le _, Nat.zero_le _⟩) hS (fun _ _ h => h) (fun _ h => h) (fun u t H1 locs ht hvm hw hB hz hk hS => ?_)
  have hP : va_P D vwCl [(q, .inr (14, [.int 0, .int a1]))] H1 := by rw [← ht]; exact hB
  have hD : va_D (fun z => z = q) [(q, .inr (14, [.int 0, .int a1]))] := hn_D1
  generalize H1 = H at hP hS ⊢
  refine lv_aload_n hx hb dX14_init_5 rfl (lv_at hl 0 rfl) ?_
  refine lv_iload_n hx hb dX14_init_6 rfl (lv_at hl 2 rfl) ?_
  refine va_putF (D := D) (ci := 14) (v := .int a2) (ty := .int) (C := RX19) (T := TX19) (N := 2) hx hb hts in_X19 tyX19 tyX19_ok nmX19 hown hK.1 hP hD hS 0 rfl rfl 0 (by decide) (hts _ q1431) (fun _ h9 => h9) rfl hin rfl (by decide +kernel) rfl rfl (Nat.le_of_ble_eq_true rfl) dX14_init_7 (fun H locs hP hD hS => ?_)
  have hP : va_P D vwCl [(q, .inr (14, [.int a2, .int a1]))] H := hP
  have hD : va_D (fun z => z = q) [(q, .inr (14, [.int a2, .int a1]))] := hD
  exact W.vret hx hb hr (fun t ht hW => ⟨⟨(), rfl, trivial, by show va_P D vwCl _ t.heap; rw [ht]; exact hP⟩, hS.F ht⟩) hS.2.2 dX14_init_10
set_option maxHeartbeats 4000000 in
theorem hn_X19_init_X19 (l : Launch) (D : va_G) (dA : Nat → ClassId) (q : Nat) (a1 : Int32) (a2 : Int32) : Met l yX19_init (ws_ yX19_init cX19_init 3 none) (hb_R 4 75) (va_Pc [.ref q, .int a1, .int a2] (hn_U D dA [(q, .inr (14, [.int 0, .int 0]))])) (va_Qv (fun _ : Unit => True) (fun _ t => va_P D vwCl [(q, .inr (14, [.int a2, .int a1]))] t.heap) (fun z => z = q)) 0 0 (fun z => z = q) := by
  refine Met.ofW (cc := cX19_init) (maxL := 3) (ret := none) (by decide) rfl ?_
  intro p e s m args below meth c s₁ B hml hv
  obtain ⟨rfl, hP, hK⟩ := hv
  have hx := B.exec
  have hb := B.bytes
  have hr := B.returns
  have hts := atoms_spec (ws := ws_ yX19_init cX19_init 3 none) B.pre
  have hts : ∀ w ∈ lw_all, w.before _ s = true := fun w h => hts w (List.mem_cons_of_mem _ h)
  have hown : s.vm.findClass RX19 = some m.cls := findClass_of_methodNamed B.named
  have hlocks := B.notSynchronized
  have hin : meth.name = "<init>" := (name_of_methodNamed B.named B.method).1
  have hl := lv_entry [.ref q, .int a1, .int a2] (n := 3) (Nat.le_of_ble_eq_true rfl)
  rw [lg_entry_eq]
  generalize (lg_sl [.ref q, .int a1, .int a2] ++ List.replicate (3 - (lg_sl [.ref q, .int a1, .int a2]).length) Slot.unset).toArray = ls at hl ⊢
  have hl : lv_has ls 3 [(0, .ref q), (1, .int a1), (2, .int a2)] := hl
  have hS : va_S (fun z => z = q) s.heap s.heap [] := va_S.rf
  have hD : va_D (fun z => z = q) [(q, .inr (14, [.int 0, .int 0]))] := hn_D1
  refine lv_aload_n hx hb dX19_init_0 rfl (lv_at hl 0 rfl) ?_
  refine lv_iload_n hx hb dX19_init_1 rfl (lv_at hl 1 rfl) ?_
  refine lv_iload_n hx hb dX19_init_2 rfl (lv_at hl 2 rfl) ?_
  refine va_callv (va_runI (As := [.int a1, .int a2]) (rest := []) ⟨hx, hb, hml, hown, hts⟩ (hn_X14_init_X19 l D dA q a1 a2 ) (cwI 2 hts (lw_meth q1429) rfl rfl rfl (hts _ q159) (hts _ q1427) (hts _ q1428) rfl (by decide +kernel) ⟨Nat.le_of_ble_eq_true rfl, Nat.le_of_ble_eq_true rfl⟩) ⟨hn_blind, fun U hU hW => ⟨rfl, by rw [hU]; exact hP, hb_K.warm hW hK⟩⟩ rfl rfl hl.1 rfl (lv_room (Nat.le_of_ble_eq_true rfl)) dX19_init_3 ⟨Nat.zero_le _, Nat.zero_le _⟩) hS (fun _ _ h => h) (fun _ h => h) (fun u t H1 locs ht hvm hw hB hz hk hS => ?_)
  have hP : va_P D vwCl [(q, .inr (14, [.int a2, .int a1]))] H1 := by rw [← ht]; exact hB
  have hD : va_D (fun z => z = q) [(q, .inr (14, [.int a2, .int a1]))] := hn_D1
  generalize H1 = H at hP hS ⊢
  exact W.vret hx hb hr (fun t ht hW => ⟨⟨(), rfl, trivial, by show va_P D vwCl _ t.heap; rw [ht]; exact hP⟩, hS.F ht⟩) hS.2.2 dX19_init_6
set_option maxHeartbeats 4000000 in
theorem hn_X11_init_X17 (l : Launch) (D : va_G) (dA : Nat → ClassId) (q : Nat)  : Met l yX11_init (ws_ yX11_init cX11_init 1 none) (hb_R 1 12) (va_Pc [.ref q] (hn_U D dA [(q, .inr (12, [.int 0]))])) (va_Qv (fun _ : Unit => True) (fun _ t => va_P D vwCl [(q, .inr (12, [.int 0]))] t.heap) (fun z => z = q)) 0 0 (fun z => z = q) := by
  refine Met.ofW (cc := cX11_init) (maxL := 1) (ret := none) (by decide) rfl ?_
  intro p e s m args below meth c s₁ B hml hv
  obtain ⟨rfl, hP, hK⟩ := hv
  have hx := B.exec
  have hb := B.bytes
  have hr := B.returns
  have hts := atoms_spec (ws := ws_ yX11_init cX11_init 1 none) B.pre
  have hts : ∀ w ∈ lw_all, w.before _ s = true := fun w h => hts w (List.mem_cons_of_mem _ h)
  have hown : s.vm.findClass RX11 = some m.cls := findClass_of_methodNamed B.named
  have hlocks := B.notSynchronized
  have hin : meth.name = "<init>" := (name_of_methodNamed B.named B.method).1
  have hl := lv_entry [.ref q] (n := 1) (Nat.le_of_ble_eq_true rfl)
  rw [lg_entry_eq]
  generalize (lg_sl [.ref q] ++ List.replicate (1 - (lg_sl [.ref q]).length) Slot.unset).toArray = ls at hl ⊢
  have hl : lv_has ls 1 [(0, .ref q)] := hl
  have hS : va_S (fun z => z = q) s.heap s.heap [] := va_S.rf
  have hD : va_D (fun z => z = q) [(q, .inr (12, [.int 0]))] := hn_D1
  refine lv_aload_n hx hb dX11_init_0 rfl (lv_at hl 0 rfl) ?_
  refine W.objInit hx hb hown (hts _ q1248) (hts _ q180) (hts _ q181) rfl (by rw [hml]; exact hl.1) rfl dX11_init_1 (Nat.le_of_ble_eq_true rfl) (Nat.le_of_ble_eq_true rfl) ?_
  refine W.eq (g2 := F0 m 4 ls []) rfl ?_
  exact W.vret hx hb hr (fun t ht hW => ⟨⟨(), rfl, trivial, by show va_P D vwCl _ t.heap; rw [ht]; exact hP⟩, hS.F ht⟩) hS.2.2 dX11_init_4
set_option maxHeartbeats 4000000 in
theorem hn_X12_init_X17 (l : Launch) (D : va_G) (dA : Nat → ClassId) (q : Nat) (a1 : Int32) : Met l yX12_init (ws_ yX12_init cX12_init 2 none) (hb_R 2 32) (va_Pc [.ref q, .int a1] (hn_U D dA [(q, .inr (12, [.int 0]))])) (va_Qv (fun _ : Unit => True) (fun _ t => va_P D vwCl [(q, .inr (12, [.int a1]))] t.heap) (fun z => z = q)) 0 0 (fun z => z = q) := by
  refine Met.ofW (cc := cX12_init) (maxL := 2) (ret := none) (by decide) rfl ?_
  intro p e s m args below meth c s₁ B hml hv
  obtain ⟨rfl, hP, hK⟩ := hv
  have hx := B.exec
  have hb := B.bytes
  have hr := B.returns
  have hts := atoms_spec (ws := ws_ yX12_init cX12_init 2 none) B.pre
  have hts : ∀ w ∈ lw_all, w.before _ s = true := fun w h => hts w (List.mem_cons_of_mem _ h)
  have hown : s.vm.findClass RX12 = some m.cls := findClass_of_methodNamed B.named
  have hlocks := B.notSynchronized
  have hin : meth.name = "<init>" := (name_of_methodNamed B.named B.method).1
  have hl := lv_entry [.ref q, .int a1] (n := 2) (Nat.le_of_ble_eq_true rfl)
  rw [lg_entry_eq]
  generalize (lg_sl [.ref q, .int a1] ++ List.replicate (2 - (lg_sl [.ref q, .int a1]).length) Slot.unset).toArray = ls at hl ⊢
  have hl : lv_has ls 2 [(0, .ref q), (1, .int a1)] := hl
  have hS : va_S (fun z => z = q) s.heap s.heap [] := va_S.rf
  have hD : va_D (fun z => z = q) [(q, .inr (12, [.int 0]))] := hn_D1
  refine lv_aload_n hx hb dX12_init_0 rfl (lv_at hl 0 rfl) ?_
  refine va_callv (va_runIN (As := []) (rest := []) ⟨hx, hb, hml, hown, hts⟩ (hn_X11_init_X17 l D dA q  ) ⟨va_cnB 0 hts (lw_meth q1247) rfl rfl rfl (hK.2.1 _ q1245 rfl) (hts _ q156) (by decide +kernel) ⟨Nat.le_of_ble_eq_true rfl, Nat.le_of_ble_eq_true rfl⟩, rfl, hts _ q1246⟩ ⟨hn_blind, fun U hU hW => ⟨rfl, by rw [hU]; exact hP, hb_K.warm hW hK⟩⟩ rfl rfl hl.1 rfl (lv_room (Nat.le_of_ble_eq_true rfl)) dX12_init_1 ⟨Nat.zero_le _, Nat.zero_le _⟩) hS (fun _ _ h => h) (fun _ h => h) (fun u t H1 locs ht hvm hw hB hz hk hS => ?_)
  have hP : va_P D vwCl [(q, .inr (12, [.int 0]))] H1 := by rw [← ht]; exact hB
  have hD : va_D (fun z => z = q) [(q, .inr (12, [.int 0]))] := hn_D1
  generalize H1 = H at hP hS ⊢
  refine lv_aload_n hx hb dX12_init_4 rfl (lv_at hl 0 rfl) ?_
  refine lv_iload_n hx hb dX12_init_5 rfl (lv_at hl 1 rfl) ?_
  refine va_putF (D := D) (ci := 12) (v := .int a1) (ty := .int) (C := RX17) (T := TX17) (N := 1) hx hb hts in_X17 tyX17 tyX17_ok nmX17 hown hK.1 hP hD hS 0 rfl rfl 0 (by decide) (hts _ q1249) (fun _ h9 => h9) rfl hin rfl (by decide +kernel) rfl rfl (Nat.le_of_ble_eq_true rfl) dX12_init_6 (fun H locs hP hD hS => ?_)
  have hP : va_P D vwCl [(q, .inr (12, [.int a1]))] H := hP
  have hD : va_D (fun z => z = q) [(q, .inr (12, [.int a1]))] := hD
  exact W.vret hx hb hr (fun t ht hW => ⟨⟨(), rfl, trivial, by show va_P D vwCl _ t.heap; rw [ht]; exact hP⟩, hS.F ht⟩) hS.2.2 dX12_init_9
set_option maxHeartbeats 4000000 in
theorem hn_X17_init_X17 (l : Launch) (D : va_G) (dA : Nat → ClassId) (q : Nat) (a1 : Int32) : Met l yX17_init (ws_ yX17_init cX17_init 2 none) (hb_R 3 53) (va_Pc [.ref q, .int a1] (hn_U D dA [(q, .inr (12, [.int 0]))])) (va_Qv (fun _ : Unit => True) (fun _ t => va_P D vwCl [(q, .inr (12, [.int a1]))] t.heap) (fun z => z = q)) 0 0 (fun z => z = q) := by
  refine Met.ofW (cc := cX17_init) (maxL := 2) (ret := none) (by decide) rfl ?_
  intro p e s m args below meth c s₁ B hml hv
  obtain ⟨rfl, hP, hK⟩ := hv
  have hx := B.exec
  have hb := B.bytes
  have hr := B.returns
  have hts := atoms_spec (ws := ws_ yX17_init cX17_init 2 none) B.pre
  have hts : ∀ w ∈ lw_all, w.before _ s = true := fun w h => hts w (List.mem_cons_of_mem _ h)
  have hown : s.vm.findClass RX17 = some m.cls := findClass_of_methodNamed B.named
  have hlocks := B.notSynchronized
  have hin : meth.name = "<init>" := (name_of_methodNamed B.named B.method).1
  have hl := lv_entry [.ref q, .int a1] (n := 2) (Nat.le_of_ble_eq_true rfl)
  rw [lg_entry_eq]
  generalize (lg_sl [.ref q, .int a1] ++ List.replicate (2 - (lg_sl [.ref q, .int a1]).length) Slot.unset).toArray = ls at hl ⊢
  have hl : lv_has ls 2 [(0, .ref q), (1, .int a1)] := hl
  have hS : va_S (fun z => z = q) s.heap s.heap [] := va_S.rf
  have hD : va_D (fun z => z = q) [(q, .inr (12, [.int 0]))] := hn_D1
  refine lv_aload_n hx hb dX17_init_0 rfl (lv_at hl 0 rfl) ?_
  refine lv_iload_n hx hb dX17_init_1 rfl (lv_at hl 1 rfl) ?_
  refine va_callv (va_runI (As := [.int a1]) (rest := []) ⟨hx, hb, hml, hown, hts⟩ (hn_X12_init_X17 l D dA q a1 ) (cwI 1 hts (lw_meth q1244) rfl rfl rfl (hts _ q157) (hts _ q1451) (hts _ q1243) rfl (by decide +kernel) ⟨Nat.le_of_ble_eq_true rfl, Nat.le_of_ble_eq_true rfl⟩) ⟨hn_blind, fun U hU hW => ⟨rfl, by rw [hU]; exact hP, hb_K.warm hW hK⟩⟩ rfl rfl hl.1 rfl (lv_room (Nat.le_of_ble_eq_true rfl)) dX17_init_2 ⟨Nat.zero_le _, Nat.zero_le _⟩) hS (fun _ _ h => h) (fun _ h => h) (fun u t H1 locs ht hvm hw hB hz hk hS => ?_)
  have hP : va_P D vwCl [(q, .inr (12, [.int a1]))] H1 := by rw [← ht]; exact hB
  have hD : va_D (fun z => z = q) [(q, .inr (12, [.int a1]))] := hn_D1
  generalize H1 = H at hP hS ⊢
  exact W.vret hx hb hr (fun t ht hW => ⟨⟨(), rfl, trivial, by show va_P D vwCl _ t.heap; rw [ht]; exact hP⟩, hS.F ht⟩) hS.2.2 dX17_init_5
set_option maxHeartbeats 4000000 in
theorem hn_X11_init_X15 (l : Launch) (D : va_G) (dA : Nat → ClassId) (q : Nat)  : Met l yX11_init (ws_ yX11_init cX11_init 1 none) (hb_R 1 12) (va_Pc [.ref q] (hn_U D dA [(q, .inr (10, [.int 0, .int 0, .int 0]))])) (va_Qv (fun _ : Unit => True) (fun _ t => va_P D vwCl [(q, .inr (10, [.int 0, .int 0, .int 0]))] t.heap) (fun z => z = q)) 0 0 (fun z => z = q) := by
  refine Met.ofW (cc := cX11_init) (maxL := 1) (ret := none) (by decide) rfl ?_
  intro p e s m args below meth c s₁ B hml hv
  obtain ⟨rfl, hP, hK⟩ := hv
  have hx := B.exec
  have hb := B.bytes
  have hr := B.returns
  have hts := atoms_spec (ws := ws_ yX11_init cX11_init 1 none) B.pre
  have hts : ∀ w ∈ lw_all, w.before _ s = true := fun w h => hts w (List.mem_cons_of_mem _ h)
  have hown : s.vm.findClass RX11 = some m.cls := findClass_of_methodNamed B.named
  have hlocks := B.notSynchronized
  have hin : meth.name = "<init>" := (name_of_methodNamed B.named B.method).1
  have hl := lv_entry [.ref q] (n := 1) (Nat.le_of_ble_eq_true rfl)
  rw [lg_entry_eq]
  generalize (lg_sl [.ref q] ++ List.replicate (1 - (lg_sl [.ref q]).length) Slot.unset).toArray = ls at hl ⊢
  have hl : lv_has ls 1 [(0, .ref q)] := hl
  have hS : va_S (fun z => z = q) s.heap s.heap [] := va_S.rf
  have hD : va_D (fun z => z = q) [(q, .inr (10, [.int 0, .int 0, .int 0]))] := hn_D1
  refine lv_aload_n hx hb dX11_init_0 rfl (lv_at hl 0 rfl) ?_
  refine W.objInit hx hb hown (hts _ q1248) (hts _ q180) (hts _ q181) rfl (by rw [hml]; exact hl.1) rfl dX11_init_1 (Nat.le_of_ble_eq_true rfl) (Nat.le_of_ble_eq_true rfl) ?_
  refine W.eq (g2 := F0 m 4 ls []) rfl ?_
  exact W.vret hx hb hr (fun t ht hW => ⟨⟨(), rfl, trivial, by show va_P D vwCl _ t.heap; rw [ht]; exact hP⟩, hS.F ht⟩) hS.2.2 dX11_init_4
set_option maxHeartbeats 4000000 in
theorem hn_X12_init_X15 (l : Launch) (D : va_G) (dA : Nat → ClassId) (q : Nat) (a1 : Int32) : Met l yX12_init (ws_ yX12_init cX12_init 2 none) (hb_R 2 32) (va_Pc [.ref q, .int a1] (hn_U D dA [(q, .inr (10, [.int 0, .int 0, .int 0]))])) (va_Qv (fun _ : Unit => True) (fun _ t => va_P D vwCl [(q, .inr (10, [.int 0, .int a1, .int 0]))] t.heap) (fun z => z = q)) 0 0 (fun z => z = q) := by
  refine Met.ofW (cc := cX12_init) (maxL := 2) (ret := none) (by decide) rfl ?_
  intro p e s m args below meth c s₁ B hml hv
  obtain ⟨rfl, hP, hK⟩ := hv
  have hx := B.exec
  have hb := B.bytes
  have hr := B.returns
  have hts := atoms_spec (ws := ws_ yX12_init cX12_init 2 none) B.pre
  have hts : ∀ w ∈ lw_all, w.before _ s = true := fun w h => hts w (List.mem_cons_of_mem _ h)
  have hown : s.vm.findClass RX12 = some m.cls := findClass_of_methodNamed B.named
  have hlocks := B.notSynchronized
  have hin : meth.name = "<init>" := (name_of_methodNamed B.named B.method).1
  have hl := lv_entry [.ref q, .int a1] (n := 2) (Nat.le_of_ble_eq_true rfl)
  rw [lg_entry_eq]
  generalize (lg_sl [.ref q, .int a1] ++ List.replicate (2 - (lg_sl [.ref q, .int a1]).length) Slot.unset).toArray = ls at hl ⊢
  have hl : lv_has ls 2 [(0, .ref q), (1, .int a1)] := hl
  have hS : va_S (fun z => z = q) s.heap s.heap [] := va_S.rf
  have hD : va_D (fun z => z = q) [(q, .inr (10, [.int 0, .int 0, .int 0]))] := hn_D1
  refine lv_aload_n hx hb dX12_init_0 rfl (lv_at hl 0 rfl) ?_
  refine va_callv (va_runIN (As := []) (rest := []) ⟨hx, hb, hml, hown, hts⟩ (hn_X11_init_X15 l D dA q  ) ⟨va_cnB 0 hts (lw_meth q1247) rfl rfl rfl (hK.2.1 _ q1245 rfl) (hts _ q156) (by decide +kernel) ⟨Nat.le_of_ble_eq_true rfl, Nat.le_of_ble_eq_true rfl⟩, rfl, hts _ q1246⟩ ⟨hn_blind, fun U hU hW => ⟨rfl, by rw [hU]; exact hP, hb_K.warm hW hK⟩⟩ rfl rfl hl.1 rfl (lv_room (Nat.le_of_ble_eq_true rfl)) dX12_init_1 ⟨Nat.zero_le _, Nat.zero_le _⟩) hS (fun _ _ h => h) (fun _ h => h) (fun u t H1 locs ht hvm hw hB hz hk hS => ?_)
  have hP : va_P D vwCl [(q, .inr (10, [.int 0, .int 0, .int 0]))] H1 := by rw [← ht]; exact hB
  have hD : va_D (fun z => z = q) [(q, .inr (10, [.int 0, .int 0, .int 0]))] := hn_D1
  generalize H1 = H at hP hS ⊢
  refine lv_aload_n hx hb dX12_init_4 rfl (lv_at hl 0 rfl) ?_
  refine lv_iload_n hx hb dX12_init_5 rfl (lv_at hl 1 rfl) ?_
  refine va_putF (D := D) (ci := 10) (v := .int a1) (ty := .int) (C := RX15) (T := TX15) (N := 3) hx hb hts in_X15 tyX15 tyX15_ok nmX15 hown hK.1 hP hD hS 0 rfl rfl 1 (by decide) (hts _ q1249) (fun _ h9 => h9) rfl hin rfl (by decide +kernel) rfl rfl (Nat.le_of_ble_eq_true rfl) dX12_init_6 (fun H locs hP hD hS => ?_)
  have hP : va_P D vwCl [(q, .inr (10, [.int 0, .int a1, .int 0]))] H := hP
  have hD : va_D (fun z => z = q) [(q, .inr (10, [.int 0, .int a1, .int 0]))] := hD
  exact W.vret hx hb hr (fun t ht hW => ⟨⟨(), rfl, trivial, by show va_P D vwCl _ t.heap; rw [ht]; exact hP⟩, hS.F ht⟩) hS.2.2 dX12_init_9
set_option maxHeartbeats 4000000 in
theorem hn_X14_init_X15 (l : Launch) (D : va_G) (dA : Nat → ClassId) (q : Nat) (a1 : Int32) (a2 : Int32) : Met l yX14_init (ws_ yX14_init cX14_init 3 none) (hb_R 3 53) (va_Pc [.ref q, .int a1, .int a2] (hn_U D dA [(q, .inr (10, [.int 0, .int 0, .int 0]))])) (va_Qv (fun _ : Unit => True) (fun _ t => va_P D vwCl [(q, .inr (10, [.int a2, .int a1, .int 0]))] t.heap) (fun z => z = q)) 0 0 (fun z => z = q) := by
  refine Met.ofW (cc := cX14_init) (maxL := 3) (ret := none) (by decide) rfl ?_
  intro p e s m args below meth c s₁ B hml hv
  obtain ⟨rfl, hP, hK⟩ := hv
  have hx := B.exec
  have hb := B.bytes
  have hr := B.returns
  have hts := atoms_spec (ws := ws_ yX14_init cX14_init 3 none) B.pre
  have hts : ∀ w ∈ lw_all, w.before _ s = true := fun w h => hts w (List.mem_cons_of_mem _ h)
  have hown : s.vm.findClass RX14 = some m.cls := findClass_of_methodNamed B.named
  have hlocks := B.notSynchronized
  have hin : meth.name = "<init>" := (name_of_methodNamed B.named B.method).1
  have hl := lv_entry [.ref q, .int a1, .int a2] (n := 3) (Nat.le_of_ble_eq_true rfl)
  rw [lg_entry_eq]
  generalize (lg_sl [.ref q, .int a1, .int a2] ++ List.replicate (3 - (lg_sl [.ref q, .int a1, .int a2]).length) Slot.unset).toArray = ls at hl ⊢
  have hl : lv_has ls 3 [(0, .ref q), (1, .int a1), (2, .int a2)] := hl
  have hS : va_S (fun z => z = q) s.heap s.heap [] := va_S.rf
  have hD : va_D (fun z => z = q) [(q, .inr (10, [.int 0, .int 0, .int 0]))] := hn_D1
  refine lv_aload_n hx hb dX14_init_0 rfl (lv_at hl 0 rfl) ?_
  refine lv_iload_n hx hb dX14_init_1 rfl (lv_at hl 1 rfl) ?_
  refine va_callv (va_runI (As := [.int a1]) (rest := []) ⟨hx, hb, hml, hown, hts⟩ (hn_X12_init_X15 l D dA q a1 ) (cwI 1 hts (lw_meth q1244) rfl rfl rfl (hts _ q157) (hts _ q1430) (hts _ q1243) rfl (by decide +kernel) ⟨Nat.le_of_ble_eq_true rfl, Nat.le_of_ble_eq_true rfl⟩) ⟨hn_blind, fun U hU hW => ⟨rfl, by rw [hU]; exact hP, hb_K.warm hW hK⟩⟩ rfl rfl hl.1 rfl (lv_room (Nat.le_of_ble_eq_true rfl)) dX14_init_2 ⟨Nat.zero_le _, Nat.zero_le _⟩) hS (fun _ _ h => h) (fun _ h => h) (fun u t H1 locs ht hvm hw hB hz hk hS => ?_)
  have hP : va_P D vwCl [(q, .inr (10, [.int 0, .int a1, .int 0]))] H1 := by rw [← ht]; exact hB
  have hD : va_D (fun z => z = q) [(q, .inr (10, [.int 0, .int a1, .int 0]))] := hn_D1
  generalize H1 = H at hP hS ⊢
  refine lv_aload_n hx hb dX14_init_5 rfl (lv_at hl 0 rfl) ?_
  refine lv_iload_n hx hb dX14_init_6 rfl (lv_at hl 2 rfl) ?_
  refine va_putF (D := D) (ci := 10) (v := .int a2) (ty := .int) (C := RX15) (T := TX15) (N := 3) hx hb hts in_X15 tyX15 tyX15_ok nmX15 hown hK.1 hP hD hS 0 rfl rfl 0 (by decide) (hts _ q1431) (fun _ h9 => h9) rfl hin rfl (by decide +kernel) rfl rfl (Nat.le_of_ble_eq_true rfl) dX14_init_7 (fun H locs hP hD hS => ?_)
  have hP : va_P D vwCl [(q, .inr (10, [.int a2, .int a1, .int 0]))] H := hP
  have hD : va_D (fun z => z = q) [(q, .inr (10, [.int a2, .int a1, .int 0]))] := hD
  exact W.vret hx hb hr (fun t ht hW => ⟨⟨(), rfl, trivial, by show va_P D vwCl _ t.heap; rw [ht]; exact hP⟩, hS.F ht⟩) hS.2.2 dX14_init_10
set_option maxHeartbeats 4000000 in
theorem hn_X15_init_X15 (l : Launch) (D : va_G) (dA : Nat → ClassId) (q : Nat) (a1 : Int32) (a2 : Int32) (a3 : Int32) : Met l yX15_init (ws_ yX15_init cX15_init 4 none) (hb_R 4 75) (va_Pc [.ref q, .int a1, .int a2, .int a3] (hn_U D dA [(q, .inr (10, [.int 0, .int 0, .int 0]))])) (va_Qv (fun _ : Unit => True) (fun _ t => va_P D vwCl [(q, .inr (10, [.int a2, .int a1, .int a3]))] t.heap) (fun z => z = q)) 0 0 (fun z => z = q) := by
  refine Met.ofW (cc := cX15_init) (maxL := 4) (ret := none) (by decide) rfl ?_
  intro p e s m args below meth c s₁ B hml hv
  obtain ⟨rfl, hP, hK⟩ := hv
  have hx := B.exec
  have hb := B.bytes
  have hr := B.returns
  have hts := atoms_spec (ws := ws_ yX15_init cX15_init 4 none) B.pre
  have hts : ∀ w ∈ lw_all, w.before _ s = true := fun w h => hts w (List.mem_cons_of_mem _ h)
  have hown : s.vm.findClass RX15 = some m.cls := findClass_of_methodNamed B.named
  have hlocks := B.notSynchronized
  have hin : meth.name = "<init>" := (name_of_methodNamed B.named B.method).1
  have hl := lv_entry [.ref q, .int a1, .int a2, .int a3] (n := 4) (Nat.le_of_ble_eq_true rfl)
  rw [lg_entry_eq]
  generalize (lg_sl [.ref q, .int a1, .int a2, .int a3] ++ List.replicate (4 - (lg_sl [.ref q, .int a1, .int a2, .int a3]).length) Slot.unset).toArray = ls at hl ⊢
  have hl : lv_has ls 4 [(0, .ref q), (1, .int a1), (2, .int a2), (3, .int a3)] := hl
  have hS : va_S (fun z => z = q) s.heap s.heap [] := va_S.rf
  have hD : va_D (fun z => z = q) [(q, .inr (10, [.int 0, .int 0, .int 0]))] := hn_D1
  refine lv_aload_n hx hb dX15_init_0 rfl (lv_at hl 0 rfl) ?_
  refine lv_iload_n hx hb dX15_init_1 rfl (lv_at hl 1 rfl) ?_
  refine lv_iload_n hx hb dX15_init_2 rfl (lv_at hl 2 rfl) ?_
  refine va_callv (va_runI (As := [.int a1, .int a2]) (rest := []) ⟨hx, hb, hml, hown, hts⟩ (hn_X14_init_X15 l D dA q a1 a2 ) (cwI 2 hts (lw_meth q1429) rfl rfl rfl (hts _ q159) (hts _ q1463) (hts _ q1428) rfl (by decide +kernel) ⟨Nat.le_of_ble_eq_true rfl, Nat.le_of_ble_eq_true rfl⟩) ⟨hn_blind, fun U hU hW => ⟨rfl, by rw [hU]; exact hP, hb_K.warm hW hK⟩⟩ rfl rfl hl.1 rfl (lv_room (Nat.le_of_ble_eq_true rfl)) dX15_init_3 ⟨Nat.zero_le _, Nat.zero_le _⟩) hS (fun _ _ h => h) (fun _ h => h) (fun u t H1 locs ht hvm hw hB hz hk hS => ?_)
  have hP : va_P D vwCl [(q, .inr (10, [.int a2, .int a1, .int 0]))] H1 := by rw [← ht]; exact hB
  have hD : va_D (fun z => z = q) [(q, .inr (10, [.int a2, .int a1, .int 0]))] := hn_D1
  generalize H1 = H at hP hS ⊢
  refine lv_aload_n hx hb dX15_init_6 rfl (lv_at hl 0 rfl) ?_
  refine lv_iload_n hx hb dX15_init_7 rfl (lv_at hl 3 rfl) ?_
  refine va_putF (D := D) (ci := 10) (v := .int a3) (ty := .int) (C := RX15) (T := TX15) (N := 3) hx hb hts in_X15 tyX15 tyX15_ok nmX15 hown hK.1 hP hD hS 0 rfl rfl 2 (by decide) (hts _ q1464) (fun _ h9 => h9) rfl hin rfl (by decide +kernel) rfl rfl (Nat.le_of_ble_eq_true rfl) dX15_init_8 (fun H locs hP hD hS => ?_)
  have hP : va_P D vwCl [(q, .inr (10, [.int a2, .int a1, .int a3]))] H := hP
  have hD : va_D (fun z => z = q) [(q, .inr (10, [.int a2, .int a1, .int a3]))] := hD
  exact W.vret hx hb hr (fun t ht hW => ⟨⟨(), rfl, trivial, by show va_P D vwCl _ t.heap; rw [ht]; exact hP⟩, hS.F ht⟩) hS.2.2 dX15_init_11
set_option maxHeartbeats 4000000 in
theorem hn_X11_init_X16 (l : Launch) (D : va_G) (dA : Nat → ClassId) (q : Nat)  : Met l yX11_init (ws_ yX11_init cX11_init 1 none) (hb_R 1 12) (va_Pc [.ref q] (hn_U D dA [(q, .inr (11, [.int 0, .int 0, .int 0]))])) (va_Qv (fun _ : Unit => True) (fun _ t => va_P D vwCl [(q, .inr (11, [.int 0, .int 0, .int 0]))] t.heap) (fun z => z = q)) 0 0 (fun z => z = q) := by
  refine Met.ofW (cc := cX11_init) (maxL := 1) (ret := none) (by decide) rfl ?_
  intro p e s m args below meth c s₁ B hml hv
  obtain ⟨rfl, hP, hK⟩ := hv
  have hx := B.exec
  have hb := B.bytes
  have hr := B.returns
  have hts := atoms_spec (ws := ws_ yX11_init cX11_init 1 none) B.pre
  have hts : ∀ w ∈ lw_all, w.before _ s = true := fun w h => hts w (List.mem_cons_of_mem _ h)
  have hown : s.vm.findClass RX11 = some m.cls := findClass_of_methodNamed B.named
  have hlocks := B.notSynchronized
  have hin : meth.name = "<init>" := (name_of_methodNamed B.named B.method).1
  have hl := lv_entry [.ref q] (n := 1) (Nat.le_of_ble_eq_true rfl)
  rw [lg_entry_eq]
  generalize (lg_sl [.ref q] ++ List.replicate (1 - (lg_sl [.ref q]).length) Slot.unset).toArray = ls at hl ⊢
  have hl : lv_has ls 1 [(0, .ref q)] := hl
  have hS : va_S (fun z => z = q) s.heap s.heap [] := va_S.rf
  have hD : va_D (fun z => z = q) [(q, .inr (11, [.int 0, .int 0, .int 0]))] := hn_D1
  refine lv_aload_n hx hb dX11_init_0 rfl (lv_at hl 0 rfl) ?_
  refine W.objInit hx hb hown (hts _ q1248) (hts _ q180) (hts _ q181) rfl (by rw [hml]; exact hl.1) rfl dX11_init_1 (Nat.le_of_ble_eq_true rfl) (Nat.le_of_ble_eq_true rfl) ?_
  refine W.eq (g2 := F0 m 4 ls []) rfl ?_
  exact W.vret hx hb hr (fun t ht hW => ⟨⟨(), rfl, trivial, by show va_P D vwCl _ t.heap; rw [ht]; exact hP⟩, hS.F ht⟩) hS.2.2 dX11_init_4
set_option maxHeartbeats 4000000 in
theorem hn_X12_init_X16 (l : Launch) (D : va_G) (dA : Nat → ClassId) (q : Nat) (a1 : Int32) : Met l yX12_init (ws_ yX12_init cX12_init 2 none) (hb_R 2 32) (va_Pc [.ref q, .int a1] (hn_U D dA [(q, .inr (11, [.int 0, .int 0, .int 0]))])) (va_Qv (fun _ : Unit => True) (fun _ t => va_P D vwCl [(q, .inr (11, [.int 0, .int a1, .int 0]))] t.heap) (fun z => z = q)) 0 0 (fun z => z = q) := by
  refine Met.ofW (cc := cX12_init) (maxL := 2) (ret := none) (by decide) rfl ?_
  intro p e s m args below meth c s₁ B hml hv
  obtain ⟨rfl, hP, hK⟩ := hv
  have hx := B.exec
  have hb := B.bytes
  have hr := B.returns
  have hts := atoms_spec (ws := ws_ yX12_init cX12_init 2 none) B.pre
  have hts : ∀ w ∈ lw_all, w.before _ s = true := fun w h => hts w (List.mem_cons_of_mem _ h)
  have hown : s.vm.findClass RX12 = some m.cls := findClass_of_methodNamed B.named
  have hlocks := B.notSynchronized
  have hin : meth.name = "<init>" := (name_of_methodNamed B.named B.method).1
  have hl := lv_entry [.ref q, .int a1] (n := 2) (Nat.le_of_ble_eq_true rfl)
  rw [lg_entry_eq]
  generalize (lg_sl [.ref q, .int a1] ++ List.replicate (2 - (lg_sl [.ref q, .int a1]).length) Slot.unset).toArray = ls at hl ⊢
  have hl : lv_has ls 2 [(0, .ref q), (1, .int a1)] := hl
  have hS : va_S (fun z => z = q) s.heap s.heap [] := va_S.rf
  have hD : va_D (fun z => z = q) [(q, .inr (11, [.int 0, .int 0, .int 0]))] := hn_D1
  refine lv_aload_n hx hb dX12_init_0 rfl (lv_at hl 0 rfl) ?_
  refine va_callv (va_runIN (As := []) (rest := []) ⟨hx, hb, hml, hown, hts⟩ (hn_X11_init_X16 l D dA q  ) ⟨va_cnB 0 hts (lw_meth q1247) rfl rfl rfl (hK.2.1 _ q1245 rfl) (hts _ q156) (by decide +kernel) ⟨Nat.le_of_ble_eq_true rfl, Nat.le_of_ble_eq_true rfl⟩, rfl, hts _ q1246⟩ ⟨hn_blind, fun U hU hW => ⟨rfl, by rw [hU]; exact hP, hb_K.warm hW hK⟩⟩ rfl rfl hl.1 rfl (lv_room (Nat.le_of_ble_eq_true rfl)) dX12_init_1 ⟨Nat.zero_le _, Nat.zero_le _⟩) hS (fun _ _ h => h) (fun _ h => h) (fun u t H1 locs ht hvm hw hB hz hk hS => ?_)
  have hP : va_P D vwCl [(q, .inr (11, [.int 0, .int 0, .int 0]))] H1 := by rw [← ht]; exact hB
  have hD : va_D (fun z => z = q) [(q, .inr (11, [.int 0, .int 0, .int 0]))] := hn_D1
  generalize H1 = H at hP hS ⊢
  refine lv_aload_n hx hb dX12_init_4 rfl (lv_at hl 0 rfl) ?_
  refine lv_iload_n hx hb dX12_init_5 rfl (lv_at hl 1 rfl) ?_
  refine va_putF (D := D) (ci := 11) (v := .int a1) (ty := .int) (C := RX16) (T := TX16) (N := 3) hx hb hts in_X16 tyX16 tyX16_ok nmX16 hown hK.1 hP hD hS 0 rfl rfl 1 (by decide) (hts _ q1249) (fun _ h9 => h9) rfl hin rfl (by decide +kernel) rfl rfl (Nat.le_of_ble_eq_true rfl) dX12_init_6 (fun H locs hP hD hS => ?_)
  have hP : va_P D vwCl [(q, .inr (11, [.int 0, .int a1, .int 0]))] H := hP
  have hD : va_D (fun z => z = q) [(q, .inr (11, [.int 0, .int a1, .int 0]))] := hD
  exact W.vret hx hb hr (fun t ht hW => ⟨⟨(), rfl, trivial, by show va_P D vwCl _ t.heap; rw [ht]; exact hP⟩, hS.F ht⟩) hS.2.2 dX12_init_9
set_option maxHeartbeats 4000000 in
theorem hn_X14_init_X16 (l : Launch) (D : va_G) (dA : Nat → ClassId) (q : Nat) (a1 : Int32) (a2 : Int32) : Met l yX14_init (ws_ yX14_init cX14_init 3 none) (hb_R 3 53) (va_Pc [.ref q, .int a1, .int a2] (hn_U D dA [(q, .inr (11, [.int 0, .int 0, .int 0]))])) (va_Qv (fun _ : Unit => True) (fun _ t => va_P D vwCl [(q, .inr (11, [.int a2, .int a1, .int 0]))] t.heap) (fun z => z = q)) 0 0 (fun z => z = q) := by
  refine Met.ofW (cc := cX14_init) (maxL := 3) (ret := none) (by decide) rfl ?_
  intro p e s m args below meth c s₁ B hml hv
  obtain ⟨rfl, hP, hK⟩ := hv
  have hx := B.exec
  have hb := B.bytes
  have hr := B.returns
  have hts := atoms_spec (ws := ws_ yX14_init cX14_init 3 none) B.pre
  have hts : ∀ w ∈ lw_all, w.before _ s = true := fun w h => hts w (List.mem_cons_of_mem _ h)
  have hown : s.vm.findClass RX14 = some m.cls := findClass_of_methodNamed B.named
  have hlocks := B.notSynchronized
  have hin : meth.name = "<init>" := (name_of_methodNamed B.named B.method).1
  have hl := lv_entry [.ref q, .int a1, .int a2] (n := 3) (Nat.le_of_ble_eq_true rfl)
  rw [lg_entry_eq]
  generalize (lg_sl [.ref q, .int a1, .int a2] ++ List.replicate (3 - (lg_sl [.ref q, .int a1, .int a2]).length) Slot.unset).toArray = ls at hl ⊢
  have hl : lv_has ls 3 [(0, .ref q), (1, .int a1), (2, .int a2)] := hl
  have hS : va_S (fun z => z = q) s.heap s.heap [] := va_S.rf
  have hD : va_D (fun z => z = q) [(q, .inr (11, [.int 0, .int 0, .int 0]))] := hn_D1
  refine lv_aload_n hx hb dX14_init_0 rfl (lv_at hl 0 rfl) ?_
  refine lv_iload_n hx hb dX14_init_1 rfl (lv_at hl 1 rfl) ?_
  refine va_callv (va_runI (As := [.int a1]) (rest := []) ⟨hx, hb, hml, hown, hts⟩ (hn_X12_init_X16 l D dA q a1 ) (cwI 1 hts (lw_meth q1244) rfl rfl rfl (hts _ q157) (hts _ q1430) (hts _ q1243) rfl (by decide +kernel) ⟨Nat.le_of_ble_eq_true rfl, Nat.le_of_ble_eq_true rfl⟩) ⟨hn_blind, fun U hU hW => ⟨rfl, by rw [hU]; exact hP, hb_K.warm hW hK⟩⟩ rfl rfl hl.1 rfl (lv_room (Nat.le_of_ble_eq_true rfl)) dX14_init_2 ⟨Nat.zero_le _, Nat.zero_le _⟩) hS (fun _ _ h => h) (fun _ h => h) (fun u t H1 locs ht hvm hw hB hz hk hS => ?_)
  have hP : va_P D vwCl [(q, .inr (11, [.int 0, .int a1, .int 0]))] H1 := by rw [← ht]; exact hB
  have hD : va_D (fun z => z = q) [(q, .inr (11, [.int 0, .int a1, .int 0]))] := hn_D1
  generalize H1 = H at hP hS ⊢
  refine lv_aload_n hx hb dX14_init_5 rfl (lv_at hl 0 rfl) ?_
  refine lv_iload_n hx hb dX14_init_6 rfl (lv_at hl 2 rfl) ?_
  refine va_putF (D := D) (ci := 11) (v := .int a2) (ty := .int) (C := RX16) (T := TX16) (N := 3) hx hb hts in_X16 tyX16 tyX16_ok nmX16 hown hK.1 hP hD hS 0 rfl rfl 0 (by decide) (hts _ q1431) (fun _ h9 => h9) rfl hin rfl (by decide +kernel) rfl rfl (Nat.le_of_ble_eq_true rfl) dX14_init_7 (fun H locs hP hD hS => ?_)
  have hP : va_P D vwCl [(q, .inr (11, [.int a2, .int a1, .int 0]))] H := hP
  have hD : va_D (fun z => z = q) [(q, .inr (11, [.int a2, .int a1, .int 0]))] := hD
  exact W.vret hx hb hr (fun t ht hW => ⟨⟨(), rfl, trivial, by show va_P D vwCl _ t.heap; rw [ht]; exact hP⟩, hS.F ht⟩) hS.2.2 dX14_init_10
set_option maxHeartbeats 4000000 in
theorem hn_X16_init_X16 (l : Launch) (D : va_G) (dA : Nat → ClassId) (q : Nat) (a1 : Int32) (a2 : Int32) (a3 : Int32) : Met l yX16_init (ws_ yX16_init cX16_init 4 none) (hb_R 4 75) (va_Pc [.ref q, .int a1, .int a2, .int a3] (hn_U D dA [(q, .inr (11, [.int 0, .int 0, .int 0]))])) (va_Qv (fun _ : Unit => True) (fun _ t => va_P D vwCl [(q, .inr (11, [.int a2, .int a1, .int a3]))] t.heap) (fun z => z = q)) 0 0 (fun z => z = q) := by
  refine Met.ofW (cc := cX16_init) (maxL := 4) (ret := none) (by decide) rfl ?_
  intro p e s m args below meth c s₁ B hml hv
  obtain ⟨rfl, hP, hK⟩ := hv
  have hx := B.exec
  have hb := B.bytes
  have hr := B.returns
  have hts := atoms_spec (ws := ws_ yX16_init cX16_init 4 none) B.pre
  have hts : ∀ w ∈ lw_all, w.before _ s = true := fun w h => hts w (List.mem_cons_of_mem _ h)
  have hown : s.vm.findClass RX16 = some m.cls := findClass_of_methodNamed B.named
  have hlocks := B.notSynchronized
  have hin : meth.name = "<init>" := (name_of_methodNamed B.named B.method).1
  have hl := lv_entry [.ref q, .int a1, .int a2, .int a3] (n := 4) (Nat.le_of_ble_eq_true rfl)
  rw [lg_entry_eq]
  generalize (lg_sl [.ref q, .int a1, .int a2, .int a3] ++ List.replicate (4 - (lg_sl [.ref q, .int a1, .int a2, .int a3]).length) Slot.unset).toArray = ls at hl ⊢
  have hl : lv_has ls 4 [(0, .ref q), (1, .int a1), (2, .int a2), (3, .int a3)] := hl
  have hS : va_S (fun z => z = q) s.heap s.heap [] := va_S.rf
  have hD : va_D (fun z => z = q) [(q, .inr (11, [.int 0, .int 0, .int 0]))] := hn_D1
  refine lv_aload_n hx hb dX16_init_0 rfl (lv_at hl 0 rfl) ?_
  refine lv_iload_n hx hb dX16_init_1 rfl (lv_at hl 1 rfl) ?_
  refine lv_iload_n hx hb dX16_init_2 rfl (lv_at hl 2 rfl) ?_
  refine va_callv (va_runI (As := [.int a1, .int a2]) (rest := []) ⟨hx, hb, hml, hown, hts⟩ (hn_X14_init_X16 l D dA q a1 a2 ) (cwI 2 hts (lw_meth q1429) rfl rfl rfl (hts _ q159) (hts _ q1479) (hts _ q1428) rfl (by decide +kernel) ⟨Nat.le_of_ble_eq_true rfl, Nat.le_of_ble_eq_true rfl⟩) ⟨hn_blind, fun U hU hW => ⟨rfl, by rw [hU]; exact hP, hb_K.warm hW hK⟩⟩ rfl rfl hl.1 rfl (lv_room (Nat.le_of_ble_eq_true rfl)) dX16_init_3 ⟨Nat.zero_le _, Nat.zero_le _⟩) hS (fun _ _ h => h) (fun _ h => h) (fun u t H1 locs ht hvm hw hB hz hk hS => ?_)
  have hP : va_P D vwCl [(q, .inr (11, [.int a2, .int a1, .int 0]))] H1 := by rw [← ht]; exact hB
  have hD : va_D (fun z => z = q) [(q, .inr (11, [.int a2, .int a1, .int 0]))] := hn_D1
  generalize H1 = H at hP hS ⊢
  refine lv_aload_n hx hb dX16_init_6 rfl (lv_at hl 0 rfl) ?_
  refine lv_iload_n hx hb dX16_init_7 rfl (lv_at hl 3 rfl) ?_
  refine va_putF (D := D) (ci := 11) (v := .int a3) (ty := .int) (C := RX16) (T := TX16) (N := 3) hx hb hts in_X16 tyX16 tyX16_ok nmX16 hown hK.1 hP hD hS 0 rfl rfl 2 (by decide) (hts _ q1480) (fun _ h9 => h9) rfl hin rfl (by decide +kernel) rfl rfl (Nat.le_of_ble_eq_true rfl) dX16_init_8 (fun H locs hP hD hS => ?_)
  have hP : va_P D vwCl [(q, .inr (11, [.int a2, .int a1, .int a3]))] H := hP
  have hD : va_D (fun z => z = q) [(q, .inr (11, [.int a2, .int a1, .int a3]))] := hD
  exact W.vret hx hb hr (fun t ht hW => ⟨⟨(), rfl, trivial, by show va_P D vwCl _ t.heap; rw [ht]; exact hP⟩, hS.F ht⟩) hS.2.2 dX16_init_11
set_option maxHeartbeats 4000000 in
theorem hn_X11_init_X18 (l : Launch) (D : va_G) (dA : Nat → ClassId) (q : Nat)  : Met l yX11_init (ws_ yX11_init cX11_init 1 none) (hb_R 1 12) (va_Pc [.ref q] (hn_U D dA [(q, .inr (13, [.int 0]))])) (va_Qv (fun _ : Unit => True) (fun _ t => va_P D vwCl [(q, .inr (13, [.int 0]))] t.heap) (fun z => z = q)) 0 0 (fun z => z = q) := by
  refine Met.ofW (cc := cX11_init) (maxL := 1) (ret := none) (by decide) rfl ?_
  intro p e s m args below meth c s₁ B hml hv
  obtain ⟨rfl, hP, hK⟩ := hv
  have hx := B.exec
  have hb := B.bytes
  have hr := B.returns
  have hts := atoms_spec (ws := ws_ yX11_init cX11_init 1 none) B.pre
  have hts : ∀ w ∈ lw_all, w.before _ s = true := fun w h => hts w (List.mem_cons_of_mem _ h)
  have hown : s.vm.findClass RX11 = some m.cls := findClass_of_methodNamed B.named
  have hlocks := B.notSynchronized
  have hin : meth.name = "<init>" := (name_of_methodNamed B.named B.method).1
  have hl := lv_entry [.ref q] (n := 1) (Nat.le_of_ble_eq_true rfl)
  rw [lg_entry_eq]
  generalize (lg_sl [.ref q] ++ List.replicate (1 - (lg_sl [.ref q]).length) Slot.unset).toArray = ls at hl ⊢
  have hl : lv_has ls 1 [(0, .ref q)] := hl
  have hS : va_S (fun z => z = q) s.heap s.heap [] := va_S.rf
  have hD : va_D (fun z => z = q) [(q, .inr (13, [.int 0]))] := hn_D1
  refine lv_aload_n hx hb dX11_init_0 rfl (lv_at hl 0 rfl) ?_
  refine W.objInit hx hb hown (hts _ q1248) (hts _ q180) (hts _ q181) rfl (by rw [hml]; exact hl.1) rfl dX11_init_1 (Nat.le_of_ble_eq_true rfl) (Nat.le_of_ble_eq_true rfl) ?_
  refine W.eq (g2 := F0 m 4 ls []) rfl ?_
  exact W.vret hx hb hr (fun t ht hW => ⟨⟨(), rfl, trivial, by show va_P D vwCl _ t.heap; rw [ht]; exact hP⟩, hS.F ht⟩) hS.2.2 dX11_init_4
set_option maxHeartbeats 4000000 in
theorem hn_X12_init_X18 (l : Launch) (D : va_G) (dA : Nat → ClassId) (q : Nat) (a1 : Int32) : Met l yX12_init (ws_ yX12_init cX12_init 2 none) (hb_R 2 32) (va_Pc [.ref q, .int a1] (hn_U D dA [(q, .inr (13, [.int 0]))])) (va_Qv (fun _ : Unit => True) (fun _ t => va_P D vwCl [(q, .inr (13, [.int a1]))] t.heap) (fun z => z = q)) 0 0 (fun z => z = q) := by
  refine Met.ofW (cc := cX12_init) (maxL := 2) (ret := none) (by decide) rfl ?_
  intro p e s m args below meth c s₁ B hml hv
  obtain ⟨rfl, hP, hK⟩ := hv
  have hx := B.exec
  have hb := B.bytes
  have hr := B.returns
  have hts := atoms_spec (ws := ws_ yX12_init cX12_init 2 none) B.pre
  have hts : ∀ w ∈ lw_all, w.before _ s = true := fun w h => hts w (List.mem_cons_of_mem _ h)
  have hown : s.vm.findClass RX12 = some m.cls := findClass_of_methodNamed B.named
  have hlocks := B.notSynchronized
  have hin : meth.name = "<init>" := (name_of_methodNamed B.named B.method).1
  have hl := lv_entry [.ref q, .int a1] (n := 2) (Nat.le_of_ble_eq_true rfl)
  rw [lg_entry_eq]
  generalize (lg_sl [.ref q, .int a1] ++ List.replicate (2 - (lg_sl [.ref q, .int a1]).length) Slot.unset).toArray = ls at hl ⊢
  have hl : lv_has ls 2 [(0, .ref q), (1, .int a1)] := hl
  have hS : va_S (fun z => z = q) s.heap s.heap [] := va_S.rf
  have hD : va_D (fun z => z = q) [(q, .inr (13, [.int 0]))] := hn_D1
  refine lv_aload_n hx hb dX12_init_0 rfl (lv_at hl 0 rfl) ?_
  refine va_callv (va_runIN (As := []) (rest := []) ⟨hx, hb, hml, hown, hts⟩ (hn_X11_init_X18 l D dA q  ) ⟨va_cnB 0 hts (lw_meth q1247) rfl rfl rfl (hK.2.1 _ q1245 rfl) (hts _ q156) (by decide +kernel) ⟨Nat.le_of_ble_eq_true rfl, Nat.le_of_ble_eq_true rfl⟩, rfl, hts _ q1246⟩ ⟨hn_blind, fun U hU hW => ⟨rfl, by rw [hU]; exact hP, hb_K.warm hW hK⟩⟩ rfl rfl hl.1 rfl (lv_room (Nat.le_of_ble_eq_true rfl)) dX12_init_1 ⟨Nat.zero_le _, Nat.zero_le _⟩) hS (fun _ _ h => h) (fun _ h => h) (fun u t H1 locs ht hvm hw hB hz hk hS => ?_)
  have hP : va_P D vwCl [(q, .inr (13, [.int 0]))] H1 := by rw [← ht]; exact hB
  have hD : va_D (fun z => z = q) [(q, .inr (13, [.int 0]))] := hn_D1
  generalize H1 = H at hP hS ⊢
  refine lv_aload_n hx hb dX12_init_4 rfl (lv_at hl 0 rfl) ?_
  refine lv_iload_n hx hb dX12_init_5 rfl (lv_at hl 1 rfl) ?_
  refine va_putF (D := D) (ci := 13) (v := .int a1) (ty := .int) (C := RX18) (T := TX18) (N := 1) hx hb hts in_X18 tyX18 tyX18_ok nmX18 hown hK.1 hP hD hS 0 rfl rfl 0 (by decide) (hts _ q1249) (fun _ h9 => h9) rfl hin rfl (by decide +kernel) rfl rfl (Nat.le_of_ble_eq_true rfl) dX12_init_6 (fun H locs hP hD hS => ?_)
  have hP : va_P D vwCl [(q, .inr (13, [.int a1]))] H := hP
  have hD : va_D (fun z => z = q) [(q, .inr (13, [.int a1]))] := hD
  exact W.vret hx hb hr (fun t ht hW => ⟨⟨(), rfl, trivial, by show va_P D vwCl _ t.heap; rw [ht]; exact hP⟩, hS.F ht⟩) hS.2.2 dX12_init_9
set_option maxHeartbeats 4000000 in
theorem hn_X18_init_X18 (l : Launch) (D : va_G) (dA : Nat → ClassId) (q : Nat) (a1 : Int32) : Met l yX18_init (ws_ yX18_init cX18_init 2 none) (hb_R 3 53) (va_Pc [.ref q, .int a1] (hn_U D dA [(q, .inr (13, [.int 0]))])) (va_Qv (fun _ : Unit => True) (fun _ t => va_P D vwCl [(q, .inr (13, [.int a1]))] t.heap) (fun z => z = q)) 0 0 (fun z => z = q) := by
  refine Met.ofW (cc := cX18_init) (maxL := 2) (ret := none) (by decide) rfl ?_
  intro p e s m args below meth c s₁ B hml hv
  obtain ⟨rfl, hP, hK⟩ := hv
  have hx := B.exec
  have hb := B.bytes
  have hr := B.returns
  have hts := atoms_spec (ws := ws_ yX18_init cX18_init 2 none) B.pre
  have hts : ∀ w ∈ lw_all, w.before _ s = true := fun w h => hts w (List.mem_cons_of_mem _ h)
  have hown : s.vm.findClass RX18 = some m.cls := findClass_of_methodNamed B.named
  have hlocks := B.notSynchronized
  have hin : meth.name = "<init>" := (name_of_methodNamed B.named B.method).1
  have hl := lv_entry [.ref q, .int a1] (n := 2) (Nat.le_of_ble_eq_true rfl)
  rw [lg_entry_eq]
  generalize (lg_sl [.ref q, .int a1] ++ List.replicate (2 - (lg_sl [.ref q, .int a1]).length) Slot.unset).toArray = ls at hl ⊢
  have hl : lv_has ls 2 [(0, .ref q), (1, .int a1)] := hl
  have hS : va_S (fun z => z = q) s.heap s.heap [] := va_S.rf
  have hD : va_D (fun z => z = q) [(q, .inr (13, [.int 0]))] := hn_D1
  refine lv_aload_n hx hb dX18_init_0 rfl (lv_at hl 0 rfl) ?_
  refine lv_iload_n hx hb dX18_init_1 rfl (lv_at hl 1 rfl) ?_
  refine va_callv (va_runI (As := [.int a1]) (rest := []) ⟨hx, hb, hml, hown, hts⟩ (hn_X12_init_X18 l D dA q a1 ) (cwI 1 hts (lw_meth q1244) rfl rfl rfl (hts _ q157) (hts _ q1495) (hts _ q1243) rfl (by decide +kernel) ⟨Nat.le_of_ble_eq_true rfl, Nat.le_of_ble_eq_true rfl⟩) ⟨hn_blind, fun U hU hW => ⟨rfl, by rw [hU]; exact hP, hb_K.warm hW hK⟩⟩ rfl rfl hl.1 rfl (lv_room (Nat.le_of_ble_eq_true rfl)) dX18_init_2 ⟨Nat.zero_le _, Nat.zero_le _⟩) hS (fun _ _ h => h) (fun _ h => h) (fun u t H1 locs ht hvm hw hB hz hk hS => ?_)
  have hP : va_P D vwCl [(q, .inr (13, [.int a1]))] H1 := by rw [← ht]; exact hB
  have hD : va_D (fun z => z = q) [(q, .inr (13, [.int a1]))] := hn_D1
  generalize H1 = H at hP hS ⊢
  exact W.vret hx hb hr (fun t ht hW => ⟨⟨(), rfl, trivial, by show va_P D vwCl _ t.heap; rw [ht]; exact hP⟩, hS.F ht⟩) hS.2.2 dX18_init_5
set_option maxHeartbeats 4000000 in
theorem hn_X11_init_X21 (l : Launch) (D : va_G) (dA : Nat → ClassId) (q : Nat)  : Met l yX11_init (ws_ yX11_init cX11_init 1 none) (hb_R 1 12) (va_Pc [.ref q] (hn_U D dA [(q, .inr (17, [.int 0]))])) (va_Qv (fun _ : Unit => True) (fun _ t => va_P D vwCl [(q, .inr (17, [.int 0]))] t.heap) (fun z => z = q)) 0 0 (fun z => z = q) := by
  refine Met.ofW (cc := cX11_init) (maxL := 1) (ret := none) (by decide) rfl ?_
  intro p e s m args below meth c s₁ B hml hv
  obtain ⟨rfl, hP, hK⟩ := hv
  have hx := B.exec
  have hb := B.bytes
  have hr := B.returns
  have hts := atoms_spec (ws := ws_ yX11_init cX11_init 1 none) B.pre
  have hts : ∀ w ∈ lw_all, w.before _ s = true := fun w h => hts w (List.mem_cons_of_mem _ h)
  have hown : s.vm.findClass RX11 = some m.cls := findClass_of_methodNamed B.named
  have hlocks := B.notSynchronized
  have hin : meth.name = "<init>" := (name_of_methodNamed B.named B.method).1
  have hl := lv_entry [.ref q] (n := 1) (Nat.le_of_ble_eq_true rfl)
  rw [lg_entry_eq]
  generalize (lg_sl [.ref q] ++ List.replicate (1 - (lg_sl [.ref q]).length) Slot.unset).toArray = ls at hl ⊢
  have hl : lv_has ls 1 [(0, .ref q)] := hl
  have hS : va_S (fun z => z = q) s.heap s.heap [] := va_S.rf
  have hD : va_D (fun z => z = q) [(q, .inr (17, [.int 0]))] := hn_D1
  refine lv_aload_n hx hb dX11_init_0 rfl (lv_at hl 0 rfl) ?_
  refine W.objInit hx hb hown (hts _ q1248) (hts _ q180) (hts _ q181) rfl (by rw [hml]; exact hl.1) rfl dX11_init_1 (Nat.le_of_ble_eq_true rfl) (Nat.le_of_ble_eq_true rfl) ?_
  refine W.eq (g2 := F0 m 4 ls []) rfl ?_
  exact W.vret hx hb hr (fun t ht hW => ⟨⟨(), rfl, trivial, by show va_P D vwCl _ t.heap; rw [ht]; exact hP⟩, hS.F ht⟩) hS.2.2 dX11_init_4
set_option maxHeartbeats 4000000 in
theorem hn_X21_init_X21 (l : Launch) (D : va_G) (dA : Nat → ClassId) (q : Nat) (a1 : Int32) : Met l yX21_init (ws_ yX21_init cX21_init 2 none) (hb_R 2 32) (va_Pc [.ref q, .int a1] (hn_U D dA [(q, .inr (17, [.int 0]))])) (va_Qv (fun _ : Unit => True) (fun _ t => va_P D vwCl [(q, .inr (17, [.int a1]))] t.heap) (fun z => z = q)) 0 0 (fun z => z = q) := by
  refine Met.ofW (cc := cX21_init) (maxL := 2) (ret := none) (by decide) rfl ?_
  intro p e s m args below meth c s₁ B hml hv
  obtain ⟨rfl, hP, hK⟩ := hv
  have hx := B.exec
  have hb := B.bytes
  have hr := B.returns
  have hts := atoms_spec (ws := ws_ yX21_init cX21_init 2 none) B.pre
  have hts : ∀ w ∈ lw_all, w.before _ s = true := fun w h => hts w (List.mem_cons_of_mem _ h)
  have hown : s.vm.findClass RX21 = some m.cls := findClass_of_methodNamed B.named
  have hlocks := B.notSynchronized
  have hin : meth.name = "<init>" := (name_of_methodNamed B.named B.method).1
  have hl := lv_entry [.ref q, .int a1] (n := 2) (Nat.le_of_ble_eq_true rfl)
  rw [lg_entry_eq]
  generalize (lg_sl [.ref q, .int a1] ++ List.replicate (2 - (lg_sl [.ref q, .int a1]).length) Slot.unset).toArray = ls at hl ⊢
  have hl : lv_has ls 2 [(0, .ref q), (1, .int a1)] := hl
  have hS : va_S (fun z => z = q) s.heap s.heap [] := va_S.rf
  have hD : va_D (fun z => z = q) [(q, .inr (17, [.int 0]))] := hn_D1
  refine lv_aload_n hx hb dX21_init_0 rfl (lv_at hl 0 rfl) ?_
  refine va_callv (va_runIN (As := []) (rest := []) ⟨hx, hb, hml, hown, hts⟩ (hn_X11_init_X21 l D dA q  ) ⟨va_cnB 0 hts (lw_meth q1247) rfl rfl rfl (hK.2.1 _ q1756 rfl) (hts _ q156) (by decide +kernel) ⟨Nat.le_of_ble_eq_true rfl, Nat.le_of_ble_eq_true rfl⟩, rfl, hts _ q1246⟩ ⟨hn_blind, fun U hU hW => ⟨rfl, by rw [hU]; exact hP, hb_K.warm hW hK⟩⟩ rfl rfl hl.1 rfl (lv_room (Nat.le_of_ble_eq_true rfl)) dX21_init_1 ⟨Nat.zero_le _, Nat.zero_le _⟩) hS (fun _ _ h => h) (fun _ h => h) (fun u t H1 locs ht hvm hw hB hz hk hS => ?_)
  have hP : va_P D vwCl [(q, .inr (17, [.int 0]))] H1 := by rw [← ht]; exact hB
  have hD : va_D (fun z => z = q) [(q, .inr (17, [.int 0]))] := hn_D1
  generalize H1 = H at hP hS ⊢
  refine lv_aload_n hx hb dX21_init_4 rfl (lv_at hl 0 rfl) ?_
  refine lv_iload_n hx hb dX21_init_5 rfl (lv_at hl 1 rfl) ?_
  refine va_putF (D := D) (ci := 17) (v := .int a1) (ty := .int) (C := RX21) (T := TX21) (N := 1) hx hb hts in_X21 tyX21 tyX21_ok nmX21 hown hK.1 hP hD hS 0 rfl rfl 0 (by decide) (hts _ q1757) (fun _ h9 => h9) rfl hin rfl (by decide +kernel) rfl rfl (Nat.le_of_ble_eq_true rfl) dX21_init_6 (fun H locs hP hD hS => ?_)
  have hP : va_P D vwCl [(q, .inr (17, [.int a1]))] H := hP
  have hD : va_D (fun z => z = q) [(q, .inr (17, [.int a1]))] := hD
  exact W.vret hx hb hr (fun t ht hW => ⟨⟨(), rfl, trivial, by show va_P D vwCl _ t.heap; rw [ht]; exact hP⟩, hS.F ht⟩) hS.2.2 dX21_init_9
set_option maxHeartbeats 4000000 in
theorem hn_X23_init_X26 (l : Launch) (D : va_G) (dA : Nat → ClassId) (q : Nat)  : Met l yX23_init (ws_ yX23_init cX23_init 1 none) (hb_R 1 12) (va_Pc [.ref q] (hn_U D dA [(q, .inr (21, [.int 0]))])) (va_Qv (fun _ : Unit => True) (fun _ t => va_P D vwCl [(q, .inr (21, [.int 0]))] t.heap) (fun z => z = q)) 0 0 (fun z => z = q) := by
  refine Met.ofW (cc := cX23_init) (maxL := 1) (ret := none) (by decide) rfl ?_
  intro p e s m args below meth c s₁ B hml hv
  obtain ⟨rfl, hP, hK⟩ := hv
  have hx := B.exec
  have hb := B.bytes
  have hr := B.returns
  have hts := atoms_spec (ws := ws_ yX23_init cX23_init 1 none) B.pre
  have hts : ∀ w ∈ lw_all, w.before _ s = true := fun w h => hts w (List.mem_cons_of_mem _ h)
  have hown : s.vm.findClass RX23 = some m.cls := findClass_of_methodNamed B.named
  have hlocks := B.notSynchronized
  have hin : meth.name = "<init>" := (name_of_methodNamed B.named B.method).1
  have hl := lv_entry [.ref q] (n := 1) (Nat.le_of_ble_eq_true rfl)
  rw [lg_entry_eq]
  generalize (lg_sl [.ref q] ++ List.replicate (1 - (lg_sl [.ref q]).length) Slot.unset).toArray = ls at hl ⊢
  have hl : lv_has ls 1 [(0, .ref q)] := hl
  have hS : va_S (fun z => z = q) s.heap s.heap [] := va_S.rf
  have hD : va_D (fun z => z = q) [(q, .inr (21, [.int 0]))] := hn_D1
  refine lv_aload_n hx hb dX23_init_0 rfl (lv_at hl 0 rfl) ?_
  refine W.objInit hx hb hown (hts _ q1876) (hts _ q180) (hts _ q181) rfl (by rw [hml]; exact hl.1) rfl dX23_init_1 (Nat.le_of_ble_eq_true rfl) (Nat.le_of_ble_eq_true rfl) ?_
  refine W.eq (g2 := F0 m 4 ls []) rfl ?_
  exact W.vret hx hb hr (fun t ht hW => ⟨⟨(), rfl, trivial, by show va_P D vwCl _ t.heap; rw [ht]; exact hP⟩, hS.F ht⟩) hS.2.2 dX23_init_4
set_option maxHeartbeats 4000000 in
theorem hn_X26_init_X26 (l : Launch) (D : va_G) (dA : Nat → ClassId) (q : Nat) (a1 : Int32) : Met l yX26_init (ws_ yX26_init cX26_init 2 none) (hb_R 2 32) (va_Pc [.ref q, .int a1] (hn_U D dA [(q, .inr (21, [.int 0]))])) (va_Qv (fun _ : Unit => True) (fun _ t => va_P D vwCl [(q, .inr (21, [.int a1]))] t.heap) (fun z => z = q)) 0 0 (fun z => z = q) := by
  refine Met.ofW (cc := cX26_init) (maxL := 2) (ret := none) (by decide) rfl ?_
  intro p e s m args below meth c s₁ B hml hv
  obtain ⟨rfl, hP, hK⟩ := hv
  have hx := B.exec
  have hb := B.bytes
  have hr := B.returns
  have hts := atoms_spec (ws := ws_ yX26_init cX26_init 2 none) B.pre
  have hts : ∀ w ∈ lw_all, w.before _ s = true := fun w h => hts w (List.mem_cons_of_mem _ h)
  have hown : s.vm.findClass RX26 = some m.cls := findClass_of_methodNamed B.named
  have hlocks := B.notSynchronized
  have hin : meth.name = "<init>" := (name_of_methodNamed B.named B.method).1
  have hl := lv_entry [.ref q, .int a1] (n := 2) (Nat.le_of_ble_eq_true rfl)
  rw [lg_entry_eq]
  generalize (lg_sl [.ref q, .int a1] ++ List.replicate (2 - (lg_sl [.ref q, .int a1]).length) Slot.unset).toArray = ls at hl ⊢
  have hl : lv_has ls 2 [(0, .ref q), (1, .int a1)] := hl
  have hS : va_S (fun z => z = q) s.heap s.heap [] := va_S.rf
  have hD : va_D (fun z => z = q) [(q, .inr (21, [.int 0]))] := hn_D1
  refine lv_aload_n hx hb dX26_init_0 rfl (lv_at hl 0 rfl) ?_
  refine va_callv (va_runIN (As := []) (rest := []) ⟨hx, hb, hml, hown, hts⟩ (hn_X23_init_X26 l D dA q  ) ⟨va_cnB 0 hts (lw_meth q1875) rfl rfl rfl (hK.2.1 _ q1902 rfl) (hts _ q168) (by decide +kernel) ⟨Nat.le_of_ble_eq_true rfl, Nat.le_of_ble_eq_true rfl⟩, rfl, hts _ q1874⟩ ⟨hn_blind, fun U hU hW => ⟨rfl, by rw [hU]; exact hP, hb_K.warm hW hK⟩⟩ rfl rfl hl.1 rfl (lv_room (Nat.le_of_ble_eq_true rfl)) dX26_init_1 ⟨Nat.zero_le _, Nat.zero_le _⟩) hS (fun _ _ h => h) (fun _ h => h) (fun u t H1 locs ht hvm hw hB hz hk hS => ?_)
  have hP : va_P D vwCl [(q, .inr (21, [.int 0]))] H1 := by rw [← ht]; exact hB
  have hD : va_D (fun z => z = q) [(q, .inr (21, [.int 0]))] := hn_D1
  generalize H1 = H at hP hS ⊢
  refine lv_aload_n hx hb dX26_init_4 rfl (lv_at hl 0 rfl) ?_
  refine lv_iload_n hx hb dX26_init_5 rfl (lv_at hl 1 rfl) ?_
  refine va_putF (D := D) (ci := 21) (v := .int a1) (ty := .int) (C := RX26) (T := TX26) (N := 1) hx hb hts in_X26 tyX26 tyX26_ok nmX26 hown hK.1 hP hD hS 0 rfl rfl 0 (by decide) (hts _ q1903) (fun _ h9 => h9) rfl hin rfl (by decide +kernel) rfl rfl (Nat.le_of_ble_eq_true rfl) dX26_init_6 (fun H locs hP hD hS => ?_)
  have hP : va_P D vwCl [(q, .inr (21, [.int a1]))] H := hP
  have hD : va_D (fun z => z = q) [(q, .inr (21, [.int a1]))] := hD
  exact W.vret hx hb hr (fun t ht hW => ⟨⟨(), rfl, trivial, by show va_P D vwCl _ t.heap; rw [ht]; exact hP⟩, hS.F ht⟩) hS.2.2 dX26_init_9
set_option maxHeartbeats 4000000 in
theorem hn_X23_init_X25 (l : Launch) (D : va_G) (dA : Nat → ClassId) (q : Nat)  : Met l yX23_init (ws_ yX23_init cX23_init 1 none) (hb_R 1 12) (va_Pc [.ref q] (hn_U D dA [(q, .inr (20, [.int 0, .int 0]))])) (va_Qv (fun _ : Unit => True) (fun _ t => va_P D vwCl [(q, .inr (20, [.int 0, .int 0]))] t.heap) (fun z => z = q)) 0 0 (fun z => z = q) := by
  refine Met.ofW (cc := cX23_init) (maxL := 1) (ret := none) (by decide) rfl ?_
  intro p e s m args below meth c s₁ B hml hv
  obtain ⟨rfl, hP, hK⟩ := hv
  have hx := B.exec
  have hb := B.bytes
  have hr := B.returns
  have hts := atoms_spec (ws := ws_ yX23_init cX23_init 1 none) B.pre
  have hts : ∀ w ∈ lw_all, w.before _ s = true := fun w h => hts w (List.mem_cons_of_mem _ h)
  have hown : s.vm.findClass RX23 = some m.cls := findClass_of_methodNamed B.named
  have hlocks := B.notSynchronized
  have hin : meth.name = "<init>" := (name_of_methodNamed B.named B.method).1
  have hl := lv_entry [.ref q] (n := 1) (Nat.le_of_ble_eq_true rfl)
  rw [lg_entry_eq]
  generalize (lg_sl [.ref q] ++ List.replicate (1 - (lg_sl [.ref q]).length) Slot.unset).toArray = ls at hl ⊢
  have hl : lv_has ls 1 [(0, .ref q)] := hl
  have hS : va_S (fun z => z = q) s.heap s.heap [] := va_S.rf
  have hD : va_D (fun z => z = q) [(q, .inr (20, [.int 0, .int 0]))] := hn_D1
  refine lv_aload_n hx hb dX23_init_0 rfl (lv_at hl 0 rfl) ?_
  refine W.objInit hx hb hown (hts _ q1876) (hts _ q180) (hts _ q181) rfl (by rw [hml]; exact hl.1) rfl dX23_init_1 (Nat.le_of_ble_eq_true rfl) (Nat.le_of_ble_eq_true rfl) ?_
  refine W.eq (g2 := F0 m 4 ls []) rfl ?_
  exact W.vret hx hb hr (fun t ht hW => ⟨⟨(), rfl, trivial, by show va_P D vwCl _ t.heap; rw [ht]; exact hP⟩, hS.F ht⟩) hS.2.2 dX23_init_4
set_option maxHeartbeats 4000000 in
theorem hn_X25_init_X25 (l : Launch) (D : va_G) (dA : Nat → ClassId) (q : Nat) (a1 : Int32) (a2 : Int32) (hB_a1 : hb_B a1) : Met l yX25_init (ws_ yX25_init cX25_init 3 none) (hb_R 2 32) (va_Pc [.ref q, .int a1, .int a2] (hn_U D dA [(q, .inr (20, [.int 0, .int 0]))])) (va_Qv (fun _ : Unit => True) (fun _ t => va_P D vwCl [(q, .inr (20, [.int a1, .int a2]))] t.heap) (fun z => z = q)) 0 0 (fun z => z = q) := by
  refine Met.ofW (cc := cX25_init) (maxL := 3) (ret := none) (by decide) rfl ?_
  intro p e s m args below meth c s₁ B hml hv
  obtain ⟨rfl, hP, hK⟩ := hv
  have hx := B.exec
  have hb := B.bytes
  have hr := B.returns
  have hts := atoms_spec (ws := ws_ yX25_init cX25_init 3 none) B.pre
  have hts : ∀ w ∈ lw_all, w.before _ s = true := fun w h => hts w (List.mem_cons_of_mem _ h)
  have hown : s.vm.findClass RX25 = some m.cls := findClass_of_methodNamed B.named
  have hlocks := B.notSynchronized
  have hin : meth.name = "<init>" := (name_of_methodNamed B.named B.method).1
  have hl := lv_entry [.ref q, .int a1, .int a2] (n := 3) (Nat.le_of_ble_eq_true rfl)
  rw [lg_entry_eq]
  generalize (lg_sl [.ref q, .int a1, .int a2] ++ List.replicate (3 - (lg_sl [.ref q, .int a1, .int a2]).length) Slot.unset).toArray = ls at hl ⊢
  have hl : lv_has ls 3 [(0, .ref q), (1, .int a1), (2, .int a2)] := hl
  have hS : va_S (fun z => z = q) s.heap s.heap [] := va_S.rf
  have hD : va_D (fun z => z = q) [(q, .inr (20, [.int 0, .int 0]))] := hn_D1
  refine lv_aload_n hx hb dX25_init_0 rfl (lv_at hl 0 rfl) ?_
  refine va_callv (va_runIN (As := []) (rest := []) ⟨hx, hb, hml, hown, hts⟩ (hn_X23_init_X25 l D dA q  ) ⟨va_cnB 0 hts (lw_meth q1875) rfl rfl rfl (hK.2.1 _ q1889 rfl) (hts _ q168) (by decide +kernel) ⟨Nat.le_of_ble_eq_true rfl, Nat.le_of_ble_eq_true rfl⟩, rfl, hts _ q1874⟩ ⟨hn_blind, fun U hU hW => ⟨rfl, by rw [hU]; exact hP, hb_K.warm hW hK⟩⟩ rfl rfl hl.1 rfl (lv_room (Nat.le_of_ble_eq_true rfl)) dX25_init_1 ⟨Nat.zero_le _, Nat.zero_le _⟩) hS (fun _ _ h => h) (fun _ h => h) (fun u t H1 locs ht hvm hw hB hz hk hS => ?_)
  have hP : va_P D vwCl [(q, .inr (20, [.int 0, .int 0]))] H1 := by rw [← ht]; exact hB
  have hD : va_D (fun z => z = q) [(q, .inr (20, [.int 0, .int 0]))] := hn_D1
  generalize H1 = H at hP hS ⊢
  refine lv_aload_n hx hb dX25_init_4 rfl (lv_at hl 0 rfl) ?_
  refine lv_iload_n hx hb dX25_init_5 rfl (lv_at hl 1 rfl) ?_
  refine va_putF (D := D) (ci := 20) (v := .int a1) (ty := .boolean) (C := RX25) (T := TX25) (N := 2) hx hb hts in_X25 tyX25 tyX25_ok nmX25 hown hK.1 hP hD hS 0 rfl rfl 0 (by decide) (hts _ q1890) (fun _ h9 => h9) rfl hin rfl (by decide +kernel) (hb_Bn hB_a1) (hb_Bf hB_a1) (Nat.le_of_ble_eq_true rfl) dX25_init_6 (fun H locs hP hD hS => ?_)
  have hP : va_P D vwCl [(q, .inr (20, [.int a1, .int 0]))] H := hP
  have hD : va_D (fun z => z = q) [(q, .inr (20, [.int a1, .int 0]))] := hD
  refine lv_aload_n hx hb dX25_init_9 rfl (lv_at hl 0 rfl) ?_
  refine lv_iload_n hx hb dX25_init_10 rfl (lv_at hl 2 rfl) ?_
  refine va_putF (D := D) (ci := 20) (v := .int a2) (ty := .int) (C := RX25) (T := TX25) (N := 2) hx hb hts in_X25 tyX25 tyX25_ok nmX25 hown hK.1 hP hD hS 0 rfl rfl 1 (by decide) (hts _ q1891) (fun _ h9 => h9) rfl hin rfl (by decide +kernel) rfl rfl (Nat.le_of_ble_eq_true rfl) dX25_init_11 (fun H locs hP hD hS => ?_)
  have hP : va_P D vwCl [(q, .inr (20, [.int a1, .int a2]))] H := hP
  have hD : va_D (fun z => z = q) [(q, .inr (20, [.int a1, .int a2]))] := hD
  exact W.vret hx hb hr (fun t ht hW => ⟨⟨(), rfl, trivial, by show va_P D vwCl _ t.heap; rw [ht]; exact hP⟩, hS.F ht⟩) hS.2.2 dX25_init_14
set_option maxHeartbeats 4000000 in
theorem hn_X23_init_X27 (l : Launch) (D : va_G) (dA : Nat → ClassId) (q : Nat)  : Met l yX23_init (ws_ yX23_init cX23_init 1 none) (hb_R 1 12) (va_Pc [.ref q] (hn_U D dA [(q, .inr (22, [.int 0, .int 0, .int 0]))])) (va_Qv (fun _ : Unit => True) (fun _ t => va_P D vwCl [(q, .inr (22, [.int 0, .int 0, .int 0]))] t.heap) (fun z => z = q)) 0 0 (fun z => z = q) := by
  refine Met.ofW (cc := cX23_init) (maxL := 1) (ret := none) (by decide) rfl ?_
  intro p e s m args below meth c s₁ B hml hv
  obtain ⟨rfl, hP, hK⟩ := hv
  have hx := B.exec
  have hb := B.bytes
  have hr := B.returns
  have hts := atoms_spec (ws := ws_ yX23_init cX23_init 1 none) B.pre
  have hts : ∀ w ∈ lw_all, w.before _ s = true := fun w h => hts w (List.mem_cons_of_mem _ h)
  have hown : s.vm.findClass RX23 = some m.cls := findClass_of_methodNamed B.named
  have hlocks := B.notSynchronized
  have hin : meth.name = "<init>" := (name_of_methodNamed B.named B.method).1
  have hl := lv_entry [.ref q] (n := 1) (Nat.le_of_ble_eq_true rfl)
  rw [lg_entry_eq]
  generalize (lg_sl [.ref q] ++ List.replicate (1 - (lg_sl [.ref q]).length) Slot.unset).toArray = ls at hl ⊢
  have hl : lv_has ls 1 [(0, .ref q)] := hl
  have hS : va_S (fun z => z = q) s.heap s.heap [] := va_S.rf
  have hD : va_D (fun z => z = q) [(q, .inr (22, [.int 0, .int 0, .int 0]))] := hn_D1
  refine lv_aload_n hx hb dX23_init_0 rfl (lv_at hl 0 rfl) ?_
  refine W.objInit hx hb hown (hts _ q1876) (hts _ q180) (hts _ q181) rfl (by rw [hml]; exact hl.1) rfl dX23_init_1 (Nat.le_of_ble_eq_true rfl) (Nat.le_of_ble_eq_true rfl) ?_
  refine W.eq (g2 := F0 m 4 ls []) rfl ?_
  exact W.vret hx hb hr (fun t ht hW => ⟨⟨(), rfl, trivial, by show va_P D vwCl _ t.heap; rw [ht]; exact hP⟩, hS.F ht⟩) hS.2.2 dX23_init_4
set_option maxHeartbeats 4000000 in
theorem hn_X27_init_X27 (l : Launch) (D : va_G) (dA : Nat → ClassId) (q : Nat) (a1 : Int32) (a2 : Int32) (a3 : Int32) : Met l yX27_init (ws_ yX27_init cX27_init 4 none) (hb_R 2 32) (va_Pc [.ref q, .int a1, .int a2, .int a3] (hn_U D dA [(q, .inr (22, [.int 0, .int 0, .int 0]))])) (va_Qv (fun _ : Unit => True) (fun _ t => va_P D vwCl [(q, .inr (22, [.int a1, .int a2, .int a3]))] t.heap) (fun z => z = q)) 0 0 (fun z => z = q) := by
  refine Met.ofW (cc := cX27_init) (maxL := 4) (ret := none) (by decide) rfl ?_
  intro p e s m args below meth c s₁ B hml hv
  obtain ⟨rfl, hP, hK⟩ := hv
  have hx := B.exec
  have hb := B.bytes
  have hr := B.returns
  have hts := atoms_spec (ws := ws_ yX27_init cX27_init 4 none) B.pre
  have hts : ∀ w ∈ lw_all, w.before _ s = true := fun w h => hts w (List.mem_cons_of_mem _ h)
  have hown : s.vm.findClass RX27 = some m.cls := findClass_of_methodNamed B.named
  have hlocks := B.notSynchronized
  have hin : meth.name = "<init>" := (name_of_methodNamed B.named B.method).1
  have hl := lv_entry [.ref q, .int a1, .int a2, .int a3] (n := 4) (Nat.le_of_ble_eq_true rfl)
  rw [lg_entry_eq]
  generalize (lg_sl [.ref q, .int a1, .int a2, .int a3] ++ List.replicate (4 - (lg_sl [.ref q, .int a1, .int a2, .int a3]).length) Slot.unset).toArray = ls at hl ⊢
  have hl : lv_has ls 4 [(0, .ref q), (1, .int a1), (2, .int a2), (3, .int a3)] := hl
  have hS : va_S (fun z => z = q) s.heap s.heap [] := va_S.rf
  have hD : va_D (fun z => z = q) [(q, .inr (22, [.int 0, .int 0, .int 0]))] := hn_D1
  refine lv_aload_n hx hb dX27_init_0 rfl (lv_at hl 0 rfl) ?_
  refine va_callv (va_runIN (As := []) (rest := []) ⟨hx, hb, hml, hown, hts⟩ (hn_X23_init_X27 l D dA q  ) ⟨va_cnB 0 hts (lw_meth q1875) rfl rfl rfl (hK.2.1 _ q1919 rfl) (hts _ q168) (by decide +kernel) ⟨Nat.le_of_ble_eq_true rfl, Nat.le_of_ble_eq_true rfl⟩, rfl, hts _ q1874⟩ ⟨hn_blind, fun U hU hW => ⟨rfl, by rw [hU]; exact hP, hb_K.warm hW hK⟩⟩ rfl rfl hl.1 rfl (lv_room (Nat.le_of_ble_eq_true rfl)) dX27_init_1 ⟨Nat.zero_le _, Nat.zero_le _⟩) hS (fun _ _ h => h) (fun _ h => h) (fun u t H1 locs ht hvm hw hB hz hk hS => ?_)
  have hP : va_P D vwCl [(q, .inr (22, [.int 0, .int 0, .int 0]))] H1 := by rw [← ht]; exact hB
  have hD : va_D (fun z => z = q) [(q, .inr (22, [.int 0, .int 0, .int 0]))] := hn_D1
  generalize H1 = H at hP hS ⊢
  refine lv_aload_n hx hb dX27_init_4 rfl (lv_at hl 0 rfl) ?_
  refine lv_iload_n hx hb dX27_init_5 rfl (lv_at hl 1 rfl) ?_
  refine va_putF (D := D) (ci := 22) (v := .int a1) (ty := .int) (C := RX27) (T := TX27) (N := 3) hx hb hts in_X27 tyX27 tyX27_ok nmX27 hown hK.1 hP hD hS 0 rfl rfl 0 (by decide) (hts _ q1920) (fun _ h9 => h9) rfl hin rfl (by decide +kernel) rfl rfl (Nat.le_of_ble_eq_true rfl) dX27_init_6 (fun H locs hP hD hS => ?_)
  have hP : va_P D vwCl [(q, .inr (22, [.int a1, .int 0, .int 0]))] H := hP
  have hD : va_D (fun z => z = q) [(q, .inr (22, [.int a1, .int 0, .int 0]))] := hD
  refine lv_aload_n hx hb dX27_init_9 rfl (lv_at hl 0 rfl) ?_
  refine lv_iload_n hx hb dX27_init_10 rfl (lv_at hl 2 rfl) ?_
  refine va_putF (D := D) (ci := 22) (v := .int a2) (ty := .int) (C := RX27) (T := TX27) (N := 3) hx hb hts in_X27 tyX27 tyX27_ok nmX27 hown hK.1 hP hD hS 0 rfl rfl 1 (by decide) (hts _ q1921) (fun _ h9 => h9) rfl hin rfl (by decide +kernel) rfl rfl (Nat.le_of_ble_eq_true rfl) dX27_init_11 (fun H locs hP hD hS => ?_)
  have hP : va_P D vwCl [(q, .inr (22, [.int a1, .int a2, .int 0]))] H := hP
  have hD : va_D (fun z => z = q) [(q, .inr (22, [.int a1, .int a2, .int 0]))] := hD
  refine lv_aload_n hx hb dX27_init_14 rfl (lv_at hl 0 rfl) ?_
  refine lv_iload_n hx hb dX27_init_15 rfl (lv_at hl 3 rfl) ?_
  refine va_putF (D := D) (ci := 22) (v := .int a3) (ty := .int) (C := RX27) (T := TX27) (N := 3) hx hb hts in_X27 tyX27 tyX27_ok nmX27 hown hK.1 hP hD hS 0 rfl rfl 2 (by decide) (hts _ q1922) (fun _ h9 => h9) rfl hin rfl (by decide +kernel) rfl rfl (Nat.le_of_ble_eq_true rfl) dX27_init_16 (fun H locs hP hD hS => ?_)
  have hP : va_P D vwCl [(q, .inr (22, [.int a1, .int a2, .int a3]))] H := hP
  have hD : va_D (fun z => z = q) [(q, .inr (22, [.int a1, .int a2, .int a3]))] := hD
  exact W.vret hx hb hr (fun t ht hW => ⟨⟨(), rfl, trivial, by show va_P D vwCl _ t.heap; rw [ht]; exact hP⟩, hS.F ht⟩) hS.2.2 dX27_init_19
set_option maxHeartbeats 4000000 in
theorem hn_X23_init_X24 (l : Launch) (D : va_G) (dA : Nat → ClassId) (q : Nat)  : Met l yX23_init (ws_ yX23_init cX23_init 1 none) (hb_R 1 12) (va_Pc [.ref q] (hn_U D dA [(q, .inr (19, [.null]))])) (va_Qv (fun _ : Unit => True) (fun _ t => va_P D vwCl [(q, .inr (19, [.null]))] t.heap) (fun z => z = q)) 0 0 (fun z => z = q) := by
  refine Met.ofW (cc := cX23_init) (maxL := 1) (ret := none) (by decide) rfl ?_
  intro p e s m args below meth c s₁ B hml hv
  obtain ⟨rfl, hP, hK⟩ := hv
  have hx := B.exec
  have hb := B.bytes
  have hr := B.returns
  have hts := atoms_spec (ws := ws_ yX23_init cX23_init 1 none) B.pre
  have hts : ∀ w ∈ lw_all, w.before _ s = true := fun w h => hts w (List.mem_cons_of_mem _ h)
  have hown : s.vm.findClass RX23 = some m.cls := findClass_of_methodNamed B.named
  have hlocks := B.notSynchronized
  have hin : meth.name = "<init>" := (name_of_methodNamed B.named B.method).1
  have hl := lv_entry [.ref q] (n := 1) (Nat.le_of_ble_eq_true rfl)
  rw [lg_entry_eq]
  generalize (lg_sl [.ref q] ++ List.replicate (1 - (lg_sl [.ref q]).length) Slot.unset).toArray = ls at hl ⊢
  have hl : lv_has ls 1 [(0, .ref q)] := hl
  have hS : va_S (fun z => z = q) s.heap s.heap [] := va_S.rf
  have hD : va_D (fun z => z = q) [(q, .inr (19, [.null]))] := hn_D1
  refine lv_aload_n hx hb dX23_init_0 rfl (lv_at hl 0 rfl) ?_
  refine W.objInit hx hb hown (hts _ q1876) (hts _ q180) (hts _ q181) rfl (by rw [hml]; exact hl.1) rfl dX23_init_1 (Nat.le_of_ble_eq_true rfl) (Nat.le_of_ble_eq_true rfl) ?_
  refine W.eq (g2 := F0 m 4 ls []) rfl ?_
  exact W.vret hx hb hr (fun t ht hW => ⟨⟨(), rfl, trivial, by show va_P D vwCl _ t.heap; rw [ht]; exact hP⟩, hS.F ht⟩) hS.2.2 dX23_init_4
set_option maxHeartbeats 4000000 in
theorem hn_X24_init_X24 (l : Launch) (D : va_G) (dA : Nat → ClassId) (q : Nat) (a1 : Nat) : Met l yX24_init (ws_ yX24_init cX24_init 2 none) (hb_R 2 32) (va_Pc [.ref q, .ref a1] (hn_U D dA [(q, .inr (19, [.null]))])) (va_Qv (fun _ : Unit => True) (fun _ t => va_P D vwCl [(q, .inr (19, [.ref a1]))] t.heap) (fun z => z = q)) 0 0 (fun z => z = q) := by
  refine Met.ofW (cc := cX24_init) (maxL := 2) (ret := none) (by decide) rfl ?_
  intro p e s m args below meth c s₁ B hml hv
  obtain ⟨rfl, hP, hK⟩ := hv
  have hx := B.exec
  have hb := B.bytes
  have hr := B.returns
  have hts := atoms_spec (ws := ws_ yX24_init cX24_init 2 none) B.pre
  have hts : ∀ w ∈ lw_all, w.before _ s = true := fun w h => hts w (List.mem_cons_of_mem _ h)
  have hown : s.vm.findClass RX24 = some m.cls := findClass_of_methodNamed B.named
  have hlocks := B.notSynchronized
  have hin : meth.name = "<init>" := (name_of_methodNamed B.named B.method).1
  have hl := lv_entry [.ref q, .ref a1] (n := 2) (Nat.le_of_ble_eq_true rfl)
  rw [lg_entry_eq]
  generalize (lg_sl [.ref q, .ref a1] ++ List.replicate (2 - (lg_sl [.ref q, .ref a1]).length) Slot.unset).toArray = ls at hl ⊢
  have hl : lv_has ls 2 [(0, .ref q), (1, .ref a1)] := hl
  have hS : va_S (fun z => z = q) s.heap s.heap [] := va_S.rf
  have hD : va_D (fun z => z = q) [(q, .inr (19, [.null]))] := hn_D1
  refine lv_aload_n hx hb dX24_init_0 rfl (lv_at hl 0 rfl) ?_
  refine va_callv (va_runIN (As := []) (rest := []) ⟨hx, hb, hml, hown, hts⟩ (hn_X23_init_X24 l D dA q  ) ⟨va_cnB 0 hts (lw_meth q1875) rfl rfl rfl (hK.2.1 _ q1873 rfl) (hts _ q168) (by decide +kernel) ⟨Nat.le_of_ble_eq_true rfl, Nat.le_of_ble_eq_true rfl⟩, rfl, hts _ q1874⟩ ⟨hn_blind, fun U hU hW => ⟨rfl, by rw [hU]; exact hP, hb_K.warm hW hK⟩⟩ rfl rfl hl.1 rfl (lv_room (Nat.le_of_ble_eq_true rfl)) dX24_init_1 ⟨Nat.zero_le _, Nat.zero_le _⟩) hS (fun _ _ h => h) (fun _ h => h) (fun u t H1 locs ht hvm hw hB hz hk hS => ?_)
  have hP : va_P D vwCl [(q, .inr (19, [.null]))] H1 := by rw [← ht]; exact hB
  have hD : va_D (fun z => z = q) [(q, .inr (19, [.null]))] := hn_D1
  generalize H1 = H at hP hS ⊢
  refine lv_aload_n hx hb dX24_init_4 rfl (lv_at hl 0 rfl) ?_
  refine lv_aload_n hx hb dX24_init_5 rfl (lv_at hl 1 rfl) ?_
  refine va_putF (D := D) (ci := 19) (v := .ref a1) (ty := .object "HeirsAtLaw$Cond") (C := RX24) (T := TX24) (N := 1) hx hb hts in_X24 tyX24 tyX24_ok nmX24 hown hK.1 hP hD hS 0 rfl rfl 0 (by decide) (hts _ q1877) (fun _ h9 => h9) rfl hin rfl (by decide +kernel) rfl rfl (Nat.le_of_ble_eq_true rfl) dX24_init_6 (fun H locs hP hD hS => ?_)
  have hP : va_P D vwCl [(q, .inr (19, [.ref a1]))] H := hP
  have hD : va_D (fun z => z = q) [(q, .inr (19, [.ref a1]))] := hD
  exact W.vret hx hb hr (fun t ht hW => ⟨⟨(), rfl, trivial, by show va_P D vwCl _ t.heap; rw [ht]; exact hP⟩, hS.F ht⟩) hS.2.2 dX24_init_9
set_option maxHeartbeats 4000000 in
theorem hn_X23_init_X28 (l : Launch) (D : va_G) (dA : Nat → ClassId) (q : Nat)  : Met l yX23_init (ws_ yX23_init cX23_init 1 none) (hb_R 1 12) (va_Pc [.ref q] (hn_U D dA [(q, .inr (23, [.null, .null, .int 0]))])) (va_Qv (fun _ : Unit => True) (fun _ t => va_P D vwCl [(q, .inr (23, [.null, .null, .int 0]))] t.heap) (fun z => z = q)) 0 0 (fun z => z = q) := by
  refine Met.ofW (cc := cX23_init) (maxL := 1) (ret := none) (by decide) rfl ?_
  intro p e s m args below meth c s₁ B hml hv
  obtain ⟨rfl, hP, hK⟩ := hv
  have hx := B.exec
  have hb := B.bytes
  have hr := B.returns
  have hts := atoms_spec (ws := ws_ yX23_init cX23_init 1 none) B.pre
  have hts : ∀ w ∈ lw_all, w.before _ s = true := fun w h => hts w (List.mem_cons_of_mem _ h)
  have hown : s.vm.findClass RX23 = some m.cls := findClass_of_methodNamed B.named
  have hlocks := B.notSynchronized
  have hin : meth.name = "<init>" := (name_of_methodNamed B.named B.method).1
  have hl := lv_entry [.ref q] (n := 1) (Nat.le_of_ble_eq_true rfl)
  rw [lg_entry_eq]
  generalize (lg_sl [.ref q] ++ List.replicate (1 - (lg_sl [.ref q]).length) Slot.unset).toArray = ls at hl ⊢
  have hl : lv_has ls 1 [(0, .ref q)] := hl
  have hS : va_S (fun z => z = q) s.heap s.heap [] := va_S.rf
  have hD : va_D (fun z => z = q) [(q, .inr (23, [.null, .null, .int 0]))] := hn_D1
  refine lv_aload_n hx hb dX23_init_0 rfl (lv_at hl 0 rfl) ?_
  refine W.objInit hx hb hown (hts _ q1876) (hts _ q180) (hts _ q181) rfl (by rw [hml]; exact hl.1) rfl dX23_init_1 (Nat.le_of_ble_eq_true rfl) (Nat.le_of_ble_eq_true rfl) ?_
  refine W.eq (g2 := F0 m 4 ls []) rfl ?_
  exact W.vret hx hb hr (fun t ht hW => ⟨⟨(), rfl, trivial, by show va_P D vwCl _ t.heap; rw [ht]; exact hP⟩, hS.F ht⟩) hS.2.2 dX23_init_4
set_option maxHeartbeats 4000000 in
theorem hn_X28_init_X28 (l : Launch) (D : va_G) (dA : Nat → ClassId) (q : Nat) (a1 : Nat) (a2 : Nat) (a3 : Int32) (hB_a3 : hb_B a3) : Met l yX28_init (ws_ yX28_init cX28_init 4 none) (hb_R 2 32) (va_Pc [.ref q, .ref a1, .ref a2, .int a3] (hn_U D dA [(q, .inr (23, [.null, .null, .int 0]))])) (va_Qv (fun _ : Unit => True) (fun _ t => va_P D vwCl [(q, .inr (23, [.ref a1, .ref a2, .int a3]))] t.heap) (fun z => z = q)) 0 0 (fun z => z = q) := by
  refine Met.ofW (cc := cX28_init) (maxL := 4) (ret := none) (by decide) rfl ?_
  intro p e s m args below meth c s₁ B hml hv
  obtain ⟨rfl, hP, hK⟩ := hv
  have hx := B.exec
  have hb := B.bytes
  have hr := B.returns
  have hts := atoms_spec (ws := ws_ yX28_init cX28_init 4 none) B.pre
  have hts : ∀ w ∈ lw_all, w.before _ s = true := fun w h => hts w (List.mem_cons_of_mem _ h)
  have hown : s.vm.findClass RX28 = some m.cls := findClass_of_methodNamed B.named
  have hlocks := B.notSynchronized
  have hin : meth.name = "<init>" := (name_of_methodNamed B.named B.method).1
  have hl := lv_entry [.ref q, .ref a1, .ref a2, .int a3] (n := 4) (Nat.le_of_ble_eq_true rfl)
  rw [lg_entry_eq]
  generalize (lg_sl [.ref q, .ref a1, .ref a2, .int a3] ++ List.replicate (4 - (lg_sl [.ref q, .ref a1, .ref a2, .int a3]).length) Slot.unset).toArray = ls at hl ⊢
  have hl : lv_has ls 4 [(0, .ref q), (1, .ref a1), (2, .ref a2), (3, .int a3)] := hl
  have hS : va_S (fun z => z = q) s.heap s.heap [] := va_S.rf
  have hD : va_D (fun z => z = q) [(q, .inr (23, [.null, .null, .int 0]))] := hn_D1
  refine lv_aload_n hx hb dX28_init_0 rfl (lv_at hl 0 rfl) ?_
  refine va_callv (va_runIN (As := []) (rest := []) ⟨hx, hb, hml, hown, hts⟩ (hn_X23_init_X28 l D dA q  ) ⟨va_cnB 0 hts (lw_meth q1875) rfl rfl rfl (hK.2.1 _ q1936 rfl) (hts _ q168) (by decide +kernel) ⟨Nat.le_of_ble_eq_true rfl, Nat.le_of_ble_eq_true rfl⟩, rfl, hts _ q1874⟩ ⟨hn_blind, fun U hU hW => ⟨rfl, by rw [hU]; exact hP, hb_K.warm hW hK⟩⟩ rfl rfl hl.1 rfl (lv_room (Nat.le_of_ble_eq_true rfl)) dX28_init_1 ⟨Nat.zero_le _, Nat.zero_le _⟩) hS (fun _ _ h => h) (fun _ h => h) (fun u t H1 locs ht hvm hw hB hz hk hS => ?_)
  have hP : va_P D vwCl [(q, .inr (23, [.null, .null, .int 0]))] H1 := by rw [← ht]; exact hB
  have hD : va_D (fun z => z = q) [(q, .inr (23, [.null, .null, .int 0]))] := hn_D1
  generalize H1 = H at hP hS ⊢
  refine lv_aload_n hx hb dX28_init_4 rfl (lv_at hl 0 rfl) ?_
  refine lv_aload_n hx hb dX28_init_5 rfl (lv_at hl 1 rfl) ?_
  refine va_putF (D := D) (ci := 23) (v := .ref a1) (ty := .object "HeirsAtLaw$Cond") (C := RX28) (T := TX28) (N := 3) hx hb hts in_X28 tyX28 tyX28_ok nmX28 hown hK.1 hP hD hS 0 rfl rfl 0 (by decide) (hts _ q1937) (fun _ h9 => h9) rfl hin rfl (by decide +kernel) rfl rfl (Nat.le_of_ble_eq_true rfl) dX28_init_6 (fun H locs hP hD hS => ?_)
  have hP : va_P D vwCl [(q, .inr (23, [.ref a1, .null, .int 0]))] H := hP
  have hD : va_D (fun z => z = q) [(q, .inr (23, [.ref a1, .null, .int 0]))] := hD
  refine lv_aload_n hx hb dX28_init_9 rfl (lv_at hl 0 rfl) ?_
  refine lv_aload_n hx hb dX28_init_10 rfl (lv_at hl 2 rfl) ?_
  refine va_putF (D := D) (ci := 23) (v := .ref a2) (ty := .object "HeirsAtLaw$Cond") (C := RX28) (T := TX28) (N := 3) hx hb hts in_X28 tyX28 tyX28_ok nmX28 hown hK.1 hP hD hS 0 rfl rfl 1 (by decide) (hts _ q1938) (fun _ h9 => h9) rfl hin rfl (by decide +kernel) rfl rfl (Nat.le_of_ble_eq_true rfl) dX28_init_11 (fun H locs hP hD hS => ?_)
  have hP : va_P D vwCl [(q, .inr (23, [.ref a1, .ref a2, .int 0]))] H := hP
  have hD : va_D (fun z => z = q) [(q, .inr (23, [.ref a1, .ref a2, .int 0]))] := hD
  refine lv_aload_n hx hb dX28_init_14 rfl (lv_at hl 0 rfl) ?_
  refine lv_iload_n hx hb dX28_init_15 rfl (lv_at hl 3 rfl) ?_
  refine va_putF (D := D) (ci := 23) (v := .int a3) (ty := .boolean) (C := RX28) (T := TX28) (N := 3) hx hb hts in_X28 tyX28 tyX28_ok nmX28 hown hK.1 hP hD hS 0 rfl rfl 2 (by decide) (hts _ q1939) (fun _ h9 => h9) rfl hin rfl (by decide +kernel) (hb_Bn hB_a3) (hb_Bf hB_a3) (Nat.le_of_ble_eq_true rfl) dX28_init_16 (fun H locs hP hD hS => ?_)
  have hP : va_P D vwCl [(q, .inr (23, [.ref a1, .ref a2, .int a3]))] H := hP
  have hD : va_D (fun z => z = q) [(q, .inr (23, [.ref a1, .ref a2, .int a3]))] := hD
  exact W.vret hx hb hr (fun t ht hW => ⟨⟨(), rfl, trivial, by show va_P D vwCl _ t.heap; rw [ht]; exact hP⟩, hS.F ht⟩) hS.2.2 dX28_init_19
set_option maxHeartbeats 4000000 in
theorem hn_X10_init_X10 (l : Launch) (D : va_G) (dA : Nat → ClassId) (q : Nat) (a1 : Int32) (a2 : Int32) (a3 : Int32) : Met l yX10_init (ws_ yX10_init cX10_init 4 none) (hb_R 1 12) (va_Pc [.ref q, .int a1, .int a2, .int a3] (hn_U D dA [(q, .inr (8, [.int 0, .int 0, .int 0]))])) (va_Qv (fun _ : Unit => True) (fun _ t => va_P D vwCl [(q, .inr (8, [.int a1, .int a2, .int a3]))] t.heap) (fun z => z = q)) 0 0 (fun z => z = q) := by
  refine Met.ofW (cc := cX10_init) (maxL := 4) (ret := none) (by decide) rfl ?_
  intro p e s m args below meth c s₁ B hml hv
  obtain ⟨rfl, hP, hK⟩ := hv
  have hx := B.exec
  have hb := B.bytes
  have hr := B.returns
  have hts := atoms_spec (ws := ws_ yX10_init cX10_init 4 none) B.pre
  have hts : ∀ w ∈ lw_all, w.before _ s = true := fun w h => hts w (List.mem_cons_of_mem _ h)
  have hown : s.vm.findClass RX10 = some m.cls := findClass_of_methodNamed B.named
  have hlocks := B.notSynchronized
  have hin : meth.name = "<init>" := (name_of_methodNamed B.named B.method).1
  have hl := lv_entry [.ref q, .int a1, .int a2, .int a3] (n := 4) (Nat.le_of_ble_eq_true rfl)
  rw [lg_entry_eq]
  generalize (lg_sl [.ref q, .int a1, .int a2, .int a3] ++ List.replicate (4 - (lg_sl [.ref q, .int a1, .int a2, .int a3]).length) Slot.unset).toArray = ls at hl ⊢
  have hl : lv_has ls 4 [(0, .ref q), (1, .int a1), (2, .int a2), (3, .int a3)] := hl
  have hS : va_S (fun z => z = q) s.heap s.heap [] := va_S.rf
  have hD : va_D (fun z => z = q) [(q, .inr (8, [.int 0, .int 0, .int 0]))] := hn_D1
  refine lv_aload_n hx hb dX10_init_0 rfl (lv_at hl 0 rfl) ?_
  refine W.objInit hx hb hown (hts _ q1148) (hts _ q180) (hts _ q181) rfl (by rw [hml]; exact hl.1) rfl dX10_init_1 (Nat.le_of_ble_eq_true rfl) (Nat.le_of_ble_eq_true rfl) ?_
  refine W.eq (g2 := F0 m 4 ls []) rfl ?_
  refine lv_aload_n hx hb dX10_init_4 rfl (lv_at hl 0 rfl) ?_
  refine lv_iload_n hx hb dX10_init_5 rfl (lv_at hl 1 rfl) ?_
  refine va_putF (D := D) (ci := 8) (v := .int a1) (ty := .int) (C := RX10) (T := TX10) (N := 3) hx hb hts in_X10 tyX10 tyX10_ok nmX10 hown hK.1 hP hD hS 0 rfl rfl 0 (by decide) (hts _ q1149) (fun _ h9 => h9) rfl hin rfl (by decide +kernel) rfl rfl (Nat.le_of_ble_eq_true rfl) dX10_init_6 (fun H locs hP hD hS => ?_)
  have hP : va_P D vwCl [(q, .inr (8, [.int a1, .int 0, .int 0]))] H := hP
  have hD : va_D (fun z => z = q) [(q, .inr (8, [.int a1, .int 0, .int 0]))] := hD
  refine lv_aload_n hx hb dX10_init_9 rfl (lv_at hl 0 rfl) ?_
  refine lv_iload_n hx hb dX10_init_10 rfl (lv_at hl 2 rfl) ?_
  refine va_putF (D := D) (ci := 8) (v := .int a2) (ty := .int) (C := RX10) (T := TX10) (N := 3) hx hb hts in_X10 tyX10 tyX10_ok nmX10 hown hK.1 hP hD hS 0 rfl rfl 1 (by decide) (hts _ q1151) (fun _ h9 => h9) rfl hin rfl (by decide +kernel) rfl rfl (Nat.le_of_ble_eq_true rfl) dX10_init_11 (fun H locs hP hD hS => ?_)
  have hP : va_P D vwCl [(q, .inr (8, [.int a1, .int a2, .int 0]))] H := hP
  have hD : va_D (fun z => z = q) [(q, .inr (8, [.int a1, .int a2, .int 0]))] := hD
  refine lv_aload_n hx hb dX10_init_14 rfl (lv_at hl 0 rfl) ?_
  refine lv_iload_n hx hb dX10_init_15 rfl (lv_at hl 3 rfl) ?_
  refine va_putF (D := D) (ci := 8) (v := .int a3) (ty := .int) (C := RX10) (T := TX10) (N := 3) hx hb hts in_X10 tyX10 tyX10_ok nmX10 hown hK.1 hP hD hS 0 rfl rfl 2 (by decide) (hts _ q1153) (fun _ h9 => h9) rfl hin rfl (by decide +kernel) rfl rfl (Nat.le_of_ble_eq_true rfl) dX10_init_16 (fun H locs hP hD hS => ?_)
  have hP : va_P D vwCl [(q, .inr (8, [.int a1, .int a2, .int a3]))] H := hP
  have hD : va_D (fun z => z = q) [(q, .inr (8, [.int a1, .int a2, .int a3]))] := hD
  exact W.vret hx hb hr (fun t ht hW => ⟨⟨(), rfl, trivial, by show va_P D vwCl _ t.heap; rw [ht]; exact hP⟩, hS.F ht⟩) hS.2.2 dX10_init_19
set_option maxHeartbeats 4000000 in
theorem hn_X9_init_X9 (l : Launch) (D : va_G) (dA : Nat → ClassId) (q : Nat) (a1 : Nat) (a2 : Int32) (a3 : Int32) : Met l yX9_init (ws_ yX9_init cX9_init 4 none) (hb_R 1 12) (va_Pc [.ref q, .ref a1, .int a2, .int a3] (hn_U D dA [(q, .inr (28, [.null, .int 0, .int 0, .int 0, .int 0, .int 0, .int 0]))])) (va_Qv (fun _ : Unit => True) (fun _ t => va_P D vwCl [(q, .inr (28, [.ref a1, .int a2, .int a3, .int 0, .int 0, .int (-1), .int (-1)]))] t.heap) (fun z => z = q)) 0 0 (fun z => z = q) := by
  refine Met.ofW (cc := cX9_init) (maxL := 4) (ret := none) (by decide) rfl ?_
  intro p e s m args below meth c s₁ B hml hv
  obtain ⟨rfl, hP, hK⟩ := hv
  have hx := B.exec
  have hb := B.bytes
  have hr := B.returns
  have hts := atoms_spec (ws := ws_ yX9_init cX9_init 4 none) B.pre
  have hts : ∀ w ∈ lw_all, w.before _ s = true := fun w h => hts w (List.mem_cons_of_mem _ h)
  have hown : s.vm.findClass RX9 = some m.cls := findClass_of_methodNamed B.named
  have hlocks := B.notSynchronized
  have hin : meth.name = "<init>" := (name_of_methodNamed B.named B.method).1
  have hl := lv_entry [.ref q, .ref a1, .int a2, .int a3] (n := 4) (Nat.le_of_ble_eq_true rfl)
  rw [lg_entry_eq]
  generalize (lg_sl [.ref q, .ref a1, .int a2, .int a3] ++ List.replicate (4 - (lg_sl [.ref q, .ref a1, .int a2, .int a3]).length) Slot.unset).toArray = ls at hl ⊢
  have hl : lv_has ls 4 [(0, .ref q), (1, .ref a1), (2, .int a2), (3, .int a3)] := hl
  have hS : va_S (fun z => z = q) s.heap s.heap [] := va_S.rf
  have hD : va_D (fun z => z = q) [(q, .inr (28, [.null, .int 0, .int 0, .int 0, .int 0, .int 0, .int 0]))] := hn_D1
  refine lv_aload_n hx hb dX9_init_0 rfl (lv_at hl 0 rfl) ?_
  refine W.objInit hx hb hown (hts _ q988) (hts _ q180) (hts _ q181) rfl (by rw [hml]; exact hl.1) rfl dX9_init_1 (Nat.le_of_ble_eq_true rfl) (Nat.le_of_ble_eq_true rfl) ?_
  refine W.eq (g2 := F0 m 4 ls []) rfl ?_
  refine lv_aload_n hx hb dX9_init_4 rfl (lv_at hl 0 rfl) ?_
  refine lv_iconst (v := (-1)) hx hb dX9_init_5 rfl ?_
  refine va_put (D := D) (ci := 28) (v := .int (-1)) (ty := .int) (C := RX9) (T := TX9) (N := 7) hx hb hts in_X9 tyX9 tyX9_ok nmX9 hown hK.1 hP hD hS 0 rfl rfl 5 (by decide) (hts _ q1008) (fun _ h9 => h9) rfl (by decide +kernel) rfl rfl (Nat.le_of_ble_eq_true rfl) dX9_init_6 (fun H locs hP hD hS => ?_)
  have hP : va_P D vwCl [(q, .inr (28, [.null, .int 0, .int 0, .int 0, .int 0, .int (-1), .int 0]))] H := hP
  have hD : va_D (fun z => z = q) [(q, .inr (28, [.null, .int 0, .int 0, .int 0, .int 0, .int (-1), .int 0]))] := hD
  refine lv_aload_n hx hb dX9_init_9 rfl (lv_at hl 0 rfl) ?_
  refine lv_iconst (v := (-1)) hx hb dX9_init_10 rfl ?_
  refine va_put (D := D) (ci := 28) (v := .int (-1)) (ty := .int) (C := RX9) (T := TX9) (N := 7) hx hb hts in_X9 tyX9 tyX9_ok nmX9 hown hK.1 hP hD hS 0 rfl rfl 6 (by decide) (hts _ q1011) (fun _ h9 => h9) rfl (by decide +kernel) rfl rfl (Nat.le_of_ble_eq_true rfl) dX9_init_11 (fun H locs hP hD hS => ?_)
  have hP : va_P D vwCl [(q, .inr (28, [.null, .int 0, .int 0, .int 0, .int 0, .int (-1), .int (-1)]))] H := hP
  have hD : va_D (fun z => z = q) [(q, .inr (28, [.null, .int 0, .int 0, .int 0, .int 0, .int (-1), .int (-1)]))] := hD
  refine lv_aload_n hx hb dX9_init_14 rfl (lv_at hl 0 rfl) ?_
  refine lv_aload_n hx hb dX9_init_15 rfl (lv_at hl 1 rfl) ?_
  refine va_putF (D := D) (ci := 28) (v := .ref a1) (ty := .object "java/lang/String") (C := RX9) (T := TX9) (N := 7) hx hb hts in_X9 tyX9 tyX9_ok nmX9 hown hK.1 hP hD hS 0 rfl rfl 0 (by decide) (hts _ q989) (fun _ h9 => h9) rfl hin rfl (by decide +kernel) rfl rfl (Nat.le_of_ble_eq_true rfl) dX9_init_16 (fun H locs hP hD hS => ?_)
  have hP : va_P D vwCl [(q, .inr (28, [.ref a1, .int 0, .int 0, .int 0, .int 0, .int (-1), .int (-1)]))] H := hP
  have hD : va_D (fun z => z = q) [(q, .inr (28, [.ref a1, .int 0, .int 0, .int 0, .int 0, .int (-1), .int (-1)]))] := hD
  refine lv_aload_n hx hb dX9_init_19 rfl (lv_at hl 0 rfl) ?_
  refine lv_iload_n hx hb dX9_init_20 rfl (lv_at hl 2 rfl) ?_
  refine va_putF (D := D) (ci := 28) (v := .int a2) (ty := .int) (C := RX9) (T := TX9) (N := 7) hx hb hts in_X9 tyX9 tyX9_ok nmX9 hown hK.1 hP hD hS 0 rfl rfl 1 (by decide) (hts _ q992) (fun _ h9 => h9) rfl hin rfl (by decide +kernel) rfl rfl (Nat.le_of_ble_eq_true rfl) dX9_init_21 (fun H locs hP hD hS => ?_)
  have hP : va_P D vwCl [(q, .inr (28, [.ref a1, .int a2, .int 0, .int 0, .int 0, .int (-1), .int (-1)]))] H := hP
  have hD : va_D (fun z => z = q) [(q, .inr (28, [.ref a1, .int a2, .int 0, .int 0, .int 0, .int (-1), .int (-1)]))] := hD
  refine lv_aload_n hx hb dX9_init_24 rfl (lv_at hl 0 rfl) ?_
  refine lv_iload_n hx hb dX9_init_25 rfl (lv_at hl 3 rfl) ?_
  refine va_putF (D := D) (ci := 28) (v := .int a3) (ty := .int) (C := RX9) (T := TX9) (N := 7) hx hb hts in_X9 tyX9 tyX9_ok nmX9 hown hK.1 hP hD hS 0 rfl rfl 2 (by decide) (hts _ q996) (fun _ h9 => h9) rfl hin rfl (by decide +kernel) rfl rfl (Nat.le_of_ble_eq_true rfl) dX9_init_26 (fun H locs hP hD hS => ?_)
  have hP : va_P D vwCl [(q, .inr (28, [.ref a1, .int a2, .int a3, .int 0, .int 0, .int (-1), .int (-1)]))] H := hP
  have hD : va_D (fun z => z = q) [(q, .inr (28, [.ref a1, .int a2, .int a3, .int 0, .int 0, .int (-1), .int (-1)]))] := hD
  exact W.vret hx hb hr (fun t ht hW => ⟨⟨(), rfl, trivial, by show va_P D vwCl _ t.heap; rw [ht]; exact hP⟩, hS.F ht⟩) hS.2.2 dX9_init_29
