/-! the words of the predicates over any objects -/
set_option maxRecDepth 100000
/-- a call: so many cells and places are its share -/
def hu_c {α : Type} (υ : hu_S) (W : hu_S → (α → hu_S → Prop) → Prop) (K : α → hu_S → Prop) : Prop := ∃ c s : Nat, c ≤ υ.2.1 ∧ s ≤ υ.2.2 ∧ W (υ.1, c, s) (fun r υ1 => K r (υ1.1, υ.2.1 - c, υ.2.2 - s))
def hu_cv (υ : hu_S) (W : hu_S → (hu_S → Prop) → Prop) (K : hu_S → Prop) : Prop := ∃ c s : Nat, c ≤ υ.2.1 ∧ s ≤ υ.2.2 ∧ W (υ.1, c, s) (fun υ1 => K (υ1.1, υ.2.1 - c, υ.2.2 - s))
def hu_gi (g : hu_G) (υ : hu_S) (a ci k : Nat) (K : Int32 → Prop) : Prop := ∃ v : Int32, hu_f g υ a ci k = some (.int v) ∧ K v
def hu_gr (g : hu_G) (υ : hu_S) (a ci k : Nat) (K : Nat → Prop) : Prop := ∃ v : Nat, hu_f g υ a ci k = some (.ref v) ∧ K v
def hu_gb (g : hu_G) (υ : hu_S) (a : Nat) (x : Int32) (K : Int32 → Prop) : Prop := ∃ (n : Nat) (f : Nat → Int32), hu_b g υ a 0 = some (n, f) ∧ vp_in x n ∧ K (f x.toNatClampNeg)
def hu_gl (g : hu_G) (υ : hu_S) (a : Nat) (K : Int32 → Prop) : Prop := ∃ (n : Nat) (f : Nat → Int32), hu_b g υ a 0 = some (n, f) ∧ K (nI n)
def hu_gq (g : hu_G) (υ : hu_S) (a : Nat) (x : Int32) (K : Nat → Prop) : Prop := ∃ (n : Nat) (f : Nat → Option Nat) (q : Nat), hu_q g υ a 6 = some (n, f) ∧ vp_in x n ∧ f x.toNatClampNeg = some q ∧ K q
def hu_ql (g : hu_G) (υ : hu_S) (a : Nat) (K : Int32 → Prop) : Prop := ∃ (n : Nat) (f : Nat → Option Nat), hu_q g υ a 6 = some (n, f) ∧ K (nI n)
def hu_sb (υ : hu_S) (a : Nat) (x v : Int32) (K : hu_S → Prop) : Prop := ∃ (n : Nat) (f : Nat → Int32), υ.1 a = some (.inl (0, n, .inl f)) ∧ vp_in x n ∧ K (hu_set υ a (0, n, .inl (upd f x.toNatClampNeg (vp_nar .byte v))))
def hu_pt (υ : hu_S) (a ci k : Nat) (v : Value) (K : hu_S → Prop) : Prop := hu_ok υ a ci k ∧ K (hu_put υ a k v)
def hu_mk (g : hu_G) (υ : hu_S) (e : va_E) (n : Nat) (K : Nat → hu_S → Prop) : Prop := 1 ≤ υ.2.1 ∧ n ≤ υ.2.2 ∧ ∀ q, hu_at g υ q = none → K q (hu_new υ q e n)
def hu_mB (g : hu_G) (υ : hu_S) (n : Int32) (K : Nat → hu_S → Prop) : Prop := ¬ n < 0 ∧ n.toNatClampNeg ≤ 536870912 ∧ 1 ≤ υ.2.1 ∧ n.toNatClampNeg ≤ υ.2.2 ∧ ∀ q, hu_at g υ q = none → K q (hu_new υ q (.inl (0, n.toNatClampNeg, .inl (fun _ => 0))) n.toNatClampNeg)
/-- bytes are copied from one row to another -/
def hu_cp (g : hu_G) (υ : hu_S) (a : Nat) (sp : Int32) (b : Nat) (dp n : Int32) (K : hu_S → Prop) : Prop := ∃ (n0 n1 : Nat) (f h : Nat → Int32), hu_b g υ a 0 = some (n0, f) ∧ υ.1 b = some (.inl (0, n1, .inl h)) ∧ ¬ sp < 0 ∧ ¬ dp < 0 ∧ ¬ n < 0 ∧ sp.toNatClampNeg + n.toNatClampNeg ≤ n0 ∧ dp.toNatClampNeg + n.toNatClampNeg ≤ n1 ∧ (∀ i : Nat, i < n.toNatClampNeg → fits .byte (.int (f (sp.toNatClampNeg + i))) = true) ∧ K (hu_set υ b (0, n1, .inl (va_cpy f h sp.toNatClampNeg dp.toNatClampNeg n.toNatClampNeg)))
theorem hu_M.chg {g : hu_G} {s : State} {mc ms : Nat} {υ : hu_S} {H H1 : Heap} {locs locs1 : List Loc} {cells slots : Nat} (M : hu_M g s mc ms υ H locs cells slots) {a : Nat} {e e0 : va_E} (h0 : υ.1 a = some e0) (hi : ∀ x, e = .inl x → x.1 < 7) (he : va_at (hg_D g) vwCl (a, hu_e (hg_d g) e) H1) (oq : ∀ q, q ≠ a → H1[q]? = H[q]?) (hS : va_S (hg_A g) s.heap H1 locs1) : hu_M g s mc ms (va_up υ.1 a (some e), υ.2) H1 locs1 cells slots := by
  refine ⟨fun b x hb => ?_, M.2.1, hS, M.2.2.2⟩
  by_cases hba : b = a
  · subst hba
    have hb : va_up υ.1 b (some e) b = some x := hb
    rw [va_up, if_pos rfl] at hb
    cases hb
    exact ⟨he, (M.1 b _ h0).2.1, hi⟩
  · have hb : va_up υ.1 a (some e) b = some x := hb
    rw [va_up, if_neg hba] at hb
    exact ⟨(M.1 b x hb).1.kept (oq b hba), (M.1 b x hb).2⟩
section HUP
variable {p : Program} {l : Launch} {e : Env} {R : Room} {s : State} {m : MethodId} {args : Array Value} {below : List Frame} {meth : Method} {c : Code} {H : Heap} {locs : List Loc} {cells slots : Nat} {QQ : State → Prop}
variable {cc : ByteArray} {pc nL mc ms idx a b : Nat} {ls : Array Slot} {rest : List Value} {g : hu_G} {υ : hu_S} {own : String}
/-- System.arraycopy, of bytes -/
theorem hu_copyB (C : hb_C p s m args c cc nL own (hg_D g) (hg_d g)) (M : hu_M g s mc ms υ H locs cells slots) (hsz : ls.size = nL) (q1 : Cond.methodLink own idx arraycopyName ∈ lw_all) (q2 : Cond.native arraycopyName ∈ lw_all) (q3 : Cond.static arraycopyName ∈ lw_all) (q4 : Cond.initialized "java/lang/System" ∈ lw_all)
    {sp dp n : Int32} {K : hu_S → Prop} (hf : hu_cp g υ a sp b dp n K) (hframes : 1 ≤ R.frames) (hlocals : (rest.map fun v => v.category).sum + (nativeFrameWords "java/lang/System" "arraycopy" 5 + 11) ≤ R.locals) (hdg : decode cc pc = .ok (.invokestatic idx, 3))
    (kk : ∀ (υ1 : hu_S) (H1 : Heap) (locs1 : List Loc), K υ1 → hu_M g s mc ms υ1 H1 locs1 cells slots → W p l e R s m args below meth c H1 locs1 cells slots QQ (F0 m (pc + 3) ls rest)) : W p l e R s m args below meth c H locs cells slots QQ (F0 m pc ls (.int n :: .int dp :: .ref b :: .int sp :: .ref a :: rest)) := by
  obtain ⟨n0, n1, f, h, hv, hw, h1, h2, h3, h4, h5, hfit, hK⟩ := hf
  have nn : ∀ z : Int32, ¬ z < 0 → z.toInt = (z.toNatClampNeg : Int) := by
    intro z hz
    have hz0 : (0 : Int) ≤ z.toInt := by
      have := Int32.not_lt.mp hz
      simpa using Int32.le_iff_toInt_le.mp this
    show z.toInt = ((z.toInt.toNat : Nat) : Int)
    omega
  have hts := C.1.2.2.2.2
  intro T hT X
  obtain ⟨scr, ty, hty, hc0, hs2, hs3, hs4, -, hs5⟩ := M.rd C.2 (hu_b_at hv)
  have hs4 : n0 ≤ scr.slots.size := hs4
  have hs5 : ∀ j : Nat, j < n0 → scr.slots[j]? = some (Value.int (f j)) := hs5
  cases hty
  have hc1 : H[b]? = some (vp_cell (hg_d g 0) (n1, .inl h)) := (M.1 b _ hw).1
  obtain ⟨hs6, k0, hk0, cm0, hkk0⟩ := hs2
  obtain ⟨-, k1, hk1, cm1, hkk1⟩ := (C.2.1.2 0 _ rfl).1 n1 (fun j => .int (h j))
  obtain ⟨vm', X', step⟩ := X.arraycopy C.1.1 C.1.2.2.2.1 (hts _ q1) (hts _ q2) (hts _ q3) (hts _ q4) (src := a) (dst := b) (cs := scr) (cd := vp_cell (hg_d g 0) (n1, .inl h)) (srcPos := sp) (destPos := dp) (n := n) (by rw [hT]; exact hc0) (by rw [hT]; exact hc1)
    hs6 (fun _ h => by cases h) hs3 (fun h => by cases h) hk0 hk1 hkk0 hkk1 (by simp [refKind]) h1 h2 h3
    (by rw [nn sp h1, nn n h3]; omega)
    (by rw [nn dp h2, nn n h3]; show ¬ _ > ((arrV (hg_d g 0) n1 (fun j => .int (h j))).slots.size : Int); rw [arrV_size]; omega)
    (fun vm₁ _ i hi => by
      have e : scr.slots.getD (sp.toNatClampNeg + i) .null = .int (f (sp.toNatClampNeg + i)) := by
        rw [Array.getD_eq_getD_getElem?, hs5 _ (by omega)]
        rfl
      refine ⟨?_, ?_⟩
      · rw [e]
        exact hfit i hi
      · rw [e]
        exact trivial)
    (g := F0 m pc ls (.int n :: .int dp :: .ref b :: .int sp :: .ref a :: rest)) rfl (by rw [C.1.2.2.1]; exact hsz) (rest := rest) rfl (by rw [C.1.2.1]; exact hdg) hframes (by show 2 * 0 + _ + _ ≤ _; omega)
  have e1 : copied scr (vp_cell (hg_d g 0) (n1, .inl h)) sp dp n = vp_cell (hg_d g 0) (n1, .inl (va_cpy f h sp.toNatClampNeg dp.toNatClampNeg n.toNatClampNeg)) := va_copiedX (fun z => .int z) scr (hg_d g 0) f h hs5 h4
  rw [e1] at X' step
  have hl : b < H.size := (Array.getElem?_eq_some_iff.mp hc1).1
  have hheap : ((T.setVm vm').setCell b (vp_cell (hg_d g 0) (n1, .inl (va_cpy f h sp.toNatClampNeg dp.toNatClampNeg n.toNatClampNeg)))).heap = H.setIfInBounds b (vp_cell (hg_d g 0) (n1, .inl (va_cpy f h sp.toNatClampNeg dp.toNatClampNeg n.toNatClampNeg))) := by rw [← hT]; rfl
  have oq : ∀ q : Nat, q ≠ b → (H.setIfInBounds b (vp_cell (hg_d g 0) (n1, .inl (va_cpy f h sp.toNatClampNeg dp.toNatClampNeg n.toNatClampNeg))))[q]? = H[q]? := fun q hq => by simp [Array.getElem?_setIfInBounds, Ne.symm hq]
  have hAb : hg_A g b := (M.1 b _ hw).2.1
  have hS := M.2.2.1
  obtain ⟨t, a1, b1⟩ := kk _ _ _ hK (M.chg (e := .inl (0, n1, .inl (va_cpy f h sp.toNatClampNeg dp.toNatClampNeg n.toNatClampNeg))) hw (fun y hy => by cases hy; show (0 : Nat) < 7; decide) (show (H.setIfInBounds b _)[b]? = some _ by simp [Array.getElem?_setIfInBounds, hl]) oq ⟨by simp; exact hS.1, fun q g1 g2 => by
      rw [oq q (fun e => g2 (by rw [e]; exact hAb))]
      exact hS.2.1 q g1 g2, fun q hq => by
      rcases List.mem_append.mp hq with h | h
      · exact hS.2.2 q h
      · obtain ⟨z, -, hz⟩ := List.mem_map.mp h
        rw [← hz]
        exact hAb⟩) _ hheap X'
  exact ⟨t, step t a1, b1⟩
end HUP
section HUQ
variable {p : Program} {l : Launch} {e : Env} {R : Room} {s : State} {m : MethodId} {args : Array Value} {below : List Frame} {meth : Method} {c : Code} {H : Heap} {locs : List Loc} {cells slots : Nat} {QQ : State → Prop} {cc : ByteArray} {pc : Nat} {ls : Array Slot} {rest : List Value}
theorem hu_acmp_eq (hexec : p.tables.exec = Jvm.exec) (hb : c.code = cc) {x y : Nat} {off : Int} {tgt : Nat} (hdg : decode cc pc = .ok (.if_acmp .eq off, 3)) (ht : (pc : Int) + off = (tgt : Int)) (kt : x = y → W p l e R s m args below meth c H locs cells slots QQ (F0 m tgt ls rest)) (kf : ¬ x = y → W p l e R s m args below meth c H locs cells slots QQ (F0 m (pc + 3) ls rest)) : W p l e R s m args below meth c H locs cells slots QQ (F0 m pc ls (.ref y :: .ref x :: rest)) :=
  lv_acmp_eq (rx := some x) (ry := some y) hexec hb hdg ht (fun h => kt (Option.some.inj h)) (fun h => kf (fun e => h (congrArg some e)))
theorem hu_acmp_ne (hexec : p.tables.exec = Jvm.exec) (hb : c.code = cc) {x y : Nat} {off : Int} {tgt : Nat} (hdg : decode cc pc = .ok (.if_acmp .ne off, 3)) (ht : (pc : Int) + off = (tgt : Int)) (kt : ¬ x = y → W p l e R s m args below meth c H locs cells slots QQ (F0 m tgt ls rest)) (kf : x = y → W p l e R s m args below meth c H locs cells slots QQ (F0 m (pc + 3) ls rest)) : W p l e R s m args below meth c H locs cells slots QQ (F0 m pc ls (.ref y :: .ref x :: rest)) :=
  lv_acmp_ne (rx := some x) (ry := some y) hexec hb hdg ht (fun h => kt (fun e => h (congrArg some e))) (fun h => kf (Option.some.inj h))
end HUQ
theorem hu_M.rc {g : hu_G} {s : State} {mc ms : Nat} {υ : hu_S} {H : Heap} {locs : List Loc} {cells slots : Nat} (M : hu_M g s mc ms υ H locs cells slots) : cells ≤ mc := by have := M.2.2.2.2.2.1; omega
theorem hu_M.rs {g : hu_G} {s : State} {mc ms : Nat} {υ : hu_S} {H : Heap} {locs : List Loc} {cells slots : Nat} (M : hu_M g s mc ms υ H locs cells slots) : slots ≤ ms := by have := M.2.2.2.2.2.2; omega
/-- a row of bytes of one's own is cloned -/
def hu_cl (g : hu_G) (υ : hu_S) (a : Nat) (K : Nat → hu_S → Prop) : Prop := ∃ (n : Nat) (f : Nat → Int32), υ.1 a = some (.inl (0, n, .inl f)) ∧ (∀ i : Nat, i < n → fits .byte (.int (f i)) = true) ∧ 1 ≤ υ.2.1 ∧ n ≤ υ.2.2 ∧ ∀ q, hu_at g υ q = none → K q (hu_new υ q (.inl (0, n, .inl f)) n)
section HUL
variable {p : Program} {l : Launch} {e : Env} {R : Room} {s : State} {m : MethodId} {args : Array Value} {below : List Frame} {meth : Method} {c : Code} {H : Heap} {locs : List Loc} {cells slots : Nat} {QQ : State → Prop}
variable {cc : ByteArray} {pc nL mc ms idx a ci n : Nat} {ls : Array Slot} {rest st0 : List Value} {g : hu_G} {υ : hu_S} {own : String}
theorem hu_clone (C : hb_C p s m args c cc nL own (hg_D g) (hg_d g)) (M : hu_M g s mc ms υ H locs cells slots) (hsz0 : ls.size = nL) (hRc : mc ≤ R.cells) (hRs : ms ≤ R.slots)
    (q1 : Cond.methodLink own idx ⟨"[B", "clone", "()Ljava/lang/Object;"⟩ ∈ lw_all) (q2 : Cond.sameMethod "[B" "java/lang/Object" "clone" "()Ljava/lang/Object;" ∈ lw_all) (q3 : Cond.native ⟨"java/lang/Object", "clone", "()Ljava/lang/Object;"⟩ ∈ lw_all) (q4 : Cond.instanceMethod ⟨"java/lang/Object", "clone", "()Ljava/lang/Object;"⟩ ∈ lw_all)
    (q5 : Cond.selects "[B" ⟨"[B", "clone", "()Ljava/lang/Object;"⟩ ⟨"java/lang/Object", "clone", "()Ljava/lang/Object;"⟩ ∈ lw_all) (q6 : Cond.castable "[B" "java/lang/Cloneable" ∈ lw_tbl) {K : Nat → hu_S → Prop} (hf : hu_cl g υ a K)
    (hframes : 1 ≤ R.frames) (hlocals : (rest.map fun v => v.category).sum + 14 ≤ R.locals) (hdg : decode cc pc = .ok (.invokevirtual idx, 3))
    (kk : ∀ (q n : Nat) (f : Nat → Int32) (υ1 : hu_S) (H1 : Heap), K q υ1 → υ1.1 q = some (.inl (0, n, .inl f)) → hu_M g s mc ms υ1 H1 locs (cells + 1) (slots + n) → W p l e R s m args below meth c H1 locs (cells + 1) (slots + n) QQ (F0 m (pc + 3) ls (.ref q :: rest))) : W p l e R s m args below meth c H locs cells slots QQ (F0 m pc ls (.ref a :: rest)) := by
  obtain ⟨n, f, hv, hfit, hm1, hm2, hK⟩ := hf
  have hts := C.1.2.2.2.2
  have hsz : (vp_cell (hg_d g 0) (n, .inl f)).slots.size = n := arrV_size _ _ _
  have hcell : H[a]? = some (vp_cell (hg_d g 0) (n, .inl f)) := (M.1 a _ hv).1
  have hnm : s.vm.findClass "[B" = some (hg_d g 0) := (C.2.1.2 0 _ rfl).2
  obtain ⟨c0, t0', f1, f2, f3⟩ := Cond.castable_spec (va_Nw.use (A := args) rfl (C.2.2.1 _ q6 rfl))
  cases hnm.symm.trans f1
  have r1 := M.2.2.2.2.2.1
  have r2 := M.2.2.2.2.2.2
  intro T hT X
  have hcellT : T.heap[a]? = some (vp_cell (hg_d g 0) (n, .inl f)) := by rw [hT]; exact hcell
  obtain ⟨-, kA, hkA, comp, hkind⟩ := State.isArrayOf_alike X.warmed.alike ((C.2.1.2 0 _ rfl).1 0 (fun _ => .null))
  obtain ⟨-, kS, hkS, compS, hkindS⟩ := (C.2.1.2 0 _ rfl).1 0 (fun _ => .null)
  obtain ⟨vm', X', st⟩ := X.cloneArray C.1.1 C.1.2.2.2.1 (hts _ q1) (hts _ q2) (hts _ q3) (hts _ q4) (hts _ q5) (a := a) (cell := vp_cell (hg_d g 0) (n, .inl f)) hcellT (fun k h => by cases h) (fun h => by cases h) hnm f2 f3
    (fun i v hv => by
      have hk' : T.vm.classes[hg_d g 0]? = some kA := hkA
      have hi : i < n := by
        have h9 := (Array.getElem?_eq_some_iff.mp hv).1
        rw [hsz] at h9
        exact h9
      have hv2 : (arrV (hg_d g 0) n (fun j => Value.int (f j))).slots[i]? = some v := hv
      rw [arrV_read _ _ hi] at hv2
      cases hv2
      have h8 := hfit i hi
      rw [show (vp_cell (hg_d g 0) (n, .inl f)).cls = hg_d g 0 from rfl]
      simpa [State.fitsSlot, State.slotType?, hk', hkind] using h8)
    (g := F0 m pc ls (.ref a :: rest)) rfl (by rw [C.1.2.2.1]; exact hsz0) rfl (by rw [C.1.2.1]; exact hdg) hframes (by show 2 * 0 + _ + 14 ≤ _; omega) (by omega) (by rw [hsz]; omega) (hloader := Vm.clonesLoader_of_array hkS hkindS)
  rw [hsz] at X'
  generalize hH1 : H.push (vp_cell (hg_d g 0) (n, .inl f)) = H1
  have z1 : H1.size = H.size + 1 := by rw [← hH1, Array.size_push]
  have e1 : H1[H.size]? = some (vp_cell (hg_d g 0) (n, .inl f)) := by rw [← hH1, Array.getElem?_push_size]
  have o1 : ∀ q : Nat, q < H.size → H1[q]? = H[q]? := fun q hq => by rw [← hH1, Array.getElem?_push, if_neg (Nat.ne_of_lt hq)]
  obtain ⟨t, b1, b2⟩ := kk H.size n f _ H1 (hK H.size M.fresh) (va_up_self _ _ _) (M.more (fun y hy => by cases hy; show (0 : Nat) < 7; decide) e1 z1 o1 hm1 hm2) ((T.setVm vm').pushCell (vp_cell (hg_d g 0) (n, .inl f))) (by rw [← hH1, ← hT]; rfl) X'
  refine ⟨t, st t ?_, b2⟩
  rw [hT]
  exact b1
theorem hu_castB (C : hb_C p s m args c cc nL own (hg_D g) (hg_d g)) (M : hu_M g s mc ms υ H locs cells slots) {f : Nat → Int32} (q1 : Cond.classLink own idx "[B" ∈ lw_all) (hv : υ.1 a = some (.inl (0, n, .inl f))) (hdg : decode cc pc = .ok (.checkcast idx, 3))
    (kk : W p l e R s m args below meth c H locs cells slots QQ (F0 m (pc + 3) ls (.ref a :: rest))) : W p l e R s m args below meth c H locs cells slots QQ (F0 m pc ls (.ref a :: rest)) :=
  va_castA C.1.1 C.1.2.1 C.1.2.2.2.1 (C.1.2.2.2.2 _ q1) (hr_P1 (M.1 a _ hv).1) 0 rfl (C.2.1.2 0 _ rfl).2 hdg kk
variable {y : MethodName} {bytes : ByteArray} {maxL fr2 lo2 c1 s1 : Nat} {ret : Option FieldType} {As : List Value} {Qc : Array Value → State → Outcome → State → Prop}
/-- super.m(..) -/
theorem hu_rSU (C : hb_C p s m args c cc nL own (hg_D g) (hg_d g)) (M : hu_M g s mc ms υ H locs cells slots) (hsz : ls.size = nL) (hRc : mc ≤ R.cells) (hRs : ms ≤ R.slots) (h1 : c1 ≤ υ.2.1) (h2 : s1 ≤ υ.2.2) (hk : hu_k g υ a ci) {r : vw_C} (hc : vwCl[ci]? = some r) (hMet : Met l y (ws_ y bytes maxL ret) (hu_R fr2 lo2 c1 s1) (va_Pc (.ref a :: As) (hu_U g (υ.1, c1, s1))) Qc c1 s1 (hg_A g)) (q1 : Cond.methodLink own idx y ∈ lw_all) (qs : Cond.sameMethod y.cls y.cls y.name y.desc ∈ lw_all) (qu : Cond.superclass own y.cls ∈ lw_all) (q2 : Cond.instanceMethod y ∈ lw_all) (q4 : Cond.initialized y.cls ∈ lw_all) (q5 : Cond.code y bytes maxL ret ∈ lw_all) (hd : y.name ≠ "<init>" ∧ (parseMethodDescriptor y.desc).map (fun d => d.parameters.length) = some n) (hn : As.length = n) (hR : fr2 + 1 ≤ R.frames ∧ 8 + (maxL + 11) + lo2 ≤ R.locals) (hst : st0 = As.reverse ++ .ref a :: rest) (hcat : (rest.map fun v => v.category).sum ≤ 8) (hdg : decode cc pc = .ok (.invokespecial idx, 3)) : va_Run p l e R s m args below meth c H locs cells slots c1 s1 (F0 m pc ls st0) rest (Qc (Value.ref a :: As).toArray) (hg_A g) :=
  va_runSU (As := As) (rest := rest) (C.2.1.1 ci _ hc).2 C.1 hMet ⟨⟨rfl, rfl, hR.1, hR.2, pay_in C.1.2.2.2.2 (lw_meth q5), List.mem_cons_self⟩, C.1.2.2.2.2 _ q1, C.1.2.2.2.2 _ qs, C.1.2.2.2.2 _ qu, C.1.2.2.2.2 _ q2, C.1.2.2.2.2 _ q4, C.1.2.2.2.2 _ q5, hd.1, fun sig h => by have h9 := hd.2; rw [h] at h9; exact (Option.some.inj h9).symm⟩ ⟨hu_blind, M.recv C.2 hk hc, fun U hU hW => ⟨rfl, M.pre C.2 hU hW⟩⟩ rfl hn hsz hst (lv_room hcat) hdg ⟨by have := M.2.2.2.2.2.1; omega, by have := M.2.2.2.2.2.2; omega⟩
end HUL
def hu_nr (v : Value) : Prop := v = .null ∨ ∃ t : Nat, v = .ref t
theorem hu_nr_of {C n d : String} {A : Nat → Prop} {U : State} {H : Heap} (h : va_Zq C n d A U H) : ∃ v, hu_nr v ∧ va_Z C n d v A U H := by
  rcases h with h | ⟨t, h⟩
  · exact ⟨_, Or.inl rfl, h⟩
  · exact ⟨_, Or.inr ⟨t, rfl⟩, h⟩
theorem hu_nr_o {v : Value} {c : String} (h : hu_nr v) : narrow (.object c) v = v ∧ fits (.object c) v = true := by
  rcases h with rfl | ⟨t, rfl⟩
  · exact ⟨rfl, rfl⟩
  · exact ⟨rfl, rfl⟩
theorem hu_nr_a {v : Value} {c : FieldType} (h : hu_nr v) : narrow (.array c) v = v ∧ fits (.array c) v = true := by
  rcases h with rfl | ⟨t, rfl⟩
  · exact ⟨rfl, rfl⟩
  · exact ⟨rfl, rfl⟩
