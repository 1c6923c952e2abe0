/-! the kinds of objects and arrays of the whole system, in one list each -/
set_option maxRecDepth 100000
abbrev vwCl : List vw_C := [(RX5, TX5, 52), (RJ10, TJ10, 6), (RJ12, TJ12, 4), (RJ13, TJ13, 4), (RJ2, TJ2, 3), (RJ6, TJ6, 4), (RJ7, TJ7, 5), (RX1, TX1, 21), (RX10, TX10, 3), (RX13, TX13, 1), (RX15, TX15, 3), (RX16, TX16, 3), (RX17, TX17, 1), (RX18, TX18, 1), (RX19, TX19, 2), (RX2, TX2, 5), (RX20, TX20, 11), (RX21, TX21, 1), (RX22, TX22, 12), (RX24, TX24, 1), (RX25, TX25, 2), (RX26, TX26, 1), (RX27, TX27, 3), (RX28, TX28, 3), (RX3, TX3, 12), (RX4, TX4, 3), (RX7, TX7, 11), (RX8, TX8, 8), (RX9, TX9, 7)]
abbrev hb_ty (dA : Nat → ClassId) : List (ClassId × FieldType) := [(dA 0, .byte), (dA 1, .int), (dA 2, .long), (dA 3, .boolean), (dA 4, .object "HeirsAtLaw$Estate"), (dA 5, .object "HeirsAtLaw$Kept"), (dA 6, .object "java/lang/Object")]
/-- what a walk has at hand: the code, the words of the tables -/
def hb_nk (w : Cond) : Bool := match w with | .fieldLinkNest .. => true | .methodLinkNest .. => true | .castable .. => true | .declares .. => true | _ => false
def hb_N (U : State) : Prop := ∀ w ∈ lw_tbl, hb_nk w = true → va_Nw w U
theorem hb_N.warm {s U : State} (hW : s.WarmedH U.vm) (h : hb_N s) : hb_N U := by
  intro w hw hk
  have h1 := h w hw hk
  cases w <;> first | exact va_Nw.warmF hW h1 | exact va_Nw.warmM hW h1 | exact va_Nw.warmC hW h1 | exact va_Nw.warmD hW h1 | exact (Bool.false_ne_true hk).elim
theorem hb_N.same {s U : State} (hv : s.vm = U.vm) (h : hb_N s) : hb_N U := by
  intro w hw hk
  have h1 := h w hw hk
  cases w <;> first | exact va_Nw.same rfl hv h1 | exact (Bool.false_ne_true hk).elim
def hb_ih : MethodName := ⟨"java/util/Iterator", "hasNext", "()Z"⟩
def hb_in : MethodName := ⟨"java/util/Iterator", "next", "()Ljava/lang/Object;"⟩
/-- what the tables say all along, beyond the words of lw_all -/
def hb_K (D : va_G) (dA : Nat → ClassId) (U : State) : Prop := va_K D vwCl (hb_ty dA) U ∧ hb_N U ∧ va_AO "HeirsAtLaw$Estate" U ∧ va_AO "HeirsAtLaw$Kept" U ∧ va_AO "java/lang/Object" U ∧ va_Fw RJ6 hb_ih yJ6_hasNext U ∧ va_Fw RJ6 hb_in yJ6_next U
theorem hb_K.warm {D : va_G} {dA : Nat → ClassId} {s U : State} (hW : s.WarmedH U.vm) (h : hb_K D dA s) : hb_K D dA U := ⟨va_K.moved hW.alike h.1, h.2.1.warm hW, h.2.2.1.moved hW.alike, h.2.2.2.1.moved hW.alike, h.2.2.2.2.1.moved hW.alike, h.2.2.2.2.2.1.moved (by decide) hW.alike, h.2.2.2.2.2.2.moved (by decide) hW.alike⟩
theorem hb_K.same {D : va_G} {dA : Nat → ClassId} {s U : State} (hv : s.vm = U.vm) (h : hb_K D dA s) : hb_K D dA U := by
  have ha : s.vm.Alike U.vm := by rw [hv]; exact Vm.Alike.refl _
  exact ⟨va_K.moved ha h.1, h.2.1.same hv, h.2.2.1.moved ha, h.2.2.2.1.moved ha, h.2.2.2.2.1.moved ha, h.2.2.2.2.2.1.moved (by decide) ha, h.2.2.2.2.2.2.moved (by decide) ha⟩
def hb_C (p : Program) (s : State) (m : MethodId) (args : Array Value) (c : Code) (cc : ByteArray) (nL : Nat) (own : String) (D : va_G) (dA : Nat → ClassId) : Prop := CallFix p m c cc nL s args lw_all own ∧ hb_K D dA s
def hb_B (v : Int32) : Prop := v = 0 ∨ v = 1
theorem hb_B0 : hb_B 0 := Or.inl rfl
theorem hb_B1 : hb_B 1 := Or.inr rfl
theorem hb_Bn {v : Int32} (h : hb_B v) : narrow .boolean (.int v) = .int v := by rcases h with rfl | rfl <;> rfl
theorem hb_Bf {v : Int32} (h : hb_B v) : fits .boolean (.int v) = true := by rcases h with rfl | rfl <;> rfl
theorem hb_Bv {v : Int32} (h : hb_B v) : vp_nar .boolean v = v := by rcases h with rfl | rfl <;> rfl
def hb_R (f l : Nat) : Room := { frames := f, cells := 0, slots := 0, locals := l }
