/-! any objects: the heap as a function (rows by the number of their kind); what is only read stands apart; cells and places left -/
set_option maxRecDepth 100000
/-- what may be written, what is only read, the tables' numbers, the literals' and the statics' cells -/
abbrev hu_G : Type := (Nat → Prop) × (Nat → Option va_E) × va_G × (Nat → ClassId) × (Nat → Nat) × (Nat → Nat)
def hg_A (g : hu_G) : Nat → Prop := g.1
def hg_r (g : hu_G) : Nat → Option va_E := g.2.1
def hg_D (g : hu_G) : va_G := g.2.2.1
def hg_d (g : hu_G) : Nat → ClassId := g.2.2.2.1
def hg_l (g : hu_G) (i : Nat) : Nat := g.2.2.2.2.1 i
def hg_z (g : hu_G) (i : Nat) : Nat := g.2.2.2.2.2 i
abbrev hu_S : Type := (Nat → Option va_E) × Nat × Nat
def hu_e (dA : Nat → ClassId) (e : va_E) : va_E := match e with
  | .inl x => .inl (dA x.1, x.2)
  | .inr o => .inr o
def hu_at (g : hu_G) (υ : hu_S) (a : Nat) : Option va_E := match υ.1 a with
  | some e => some e
  | none => hg_r g a
/-- the field k of an object of the kind ci -/
def hu_f (g : hu_G) (υ : hu_S) (a ci k : Nat) : Option Value := match hu_at g υ a with
  | some (.inr (c, fs)) => if c = ci then fs[k]? else none
  | _ => none
/-- a row of whole numbers, of the kind i -/
def hu_b (g : hu_G) (υ : hu_S) (a i : Nat) : Option (Nat × (Nat → Int32)) := match hu_at g υ a with
  | some (.inl (c, n, .inl f)) => if c = i then some (n, f) else none
  | _ => none
/-- a row of objects, of the kind i -/
def hu_q (g : hu_G) (υ : hu_S) (a i : Nat) : Option (Nat × (Nat → Option Nat)) := match hu_at g υ a with
  | some (.inl (c, n, .inr (.inr (.inr (.inr f))))) => if c = i then some (n, f) else none
  | _ => none
def hu_k (g : hu_G) (υ : hu_S) (a ci : Nat) : Prop := ∃ fs, hu_at g υ a = some (.inr (ci, fs))
def hu_ok (υ : hu_S) (a ci k : Nat) : Prop := ∃ fs, υ.1 a = some (.inr (ci, fs)) ∧ k < fs.length
def hu_put (υ : hu_S) (a k : Nat) (v : Value) : hu_S := match υ.1 a with
  | some (.inr (c, fs)) => (va_up υ.1 a (some (.inr (c, fs.set k v))), υ.2)
  | _ => υ
def hu_new (υ : hu_S) (a : Nat) (e : va_E) (n : Nat) : hu_S := (va_up υ.1 a (some e), υ.2.1 - 1, υ.2.2 - n)
/-- the row at a is laid anew -/
def hu_set (υ : hu_S) (a : Nat) (x : Nat × vp_A) : hu_S := (va_up υ.1 a (some (.inl x)), υ.2)
def hu_v (x : (Nat → Int32) ⊕ (Nat → Int64) ⊕ (Nat → UInt32) ⊕ (Nat → UInt64) ⊕ (Nat → Option Nat)) (j : Nat) : Value := match x with
  | .inl f => .int (f j)
  | .inr (.inl f) => .long (f j)
  | .inr (.inr (.inl f)) => .float (f j)
  | .inr (.inr (.inr (.inl f))) => .double (f j)
  | .inr (.inr (.inr (.inr f))) => va_rf (f j)
/-- what can be read at a: less than the whole cell -/
def hu_wk (D : va_G) (dA : Nat → ClassId) (U : State) (H : Heap) (a : Nat) (e : va_E) : Prop := match e with
  | .inl x => ∃ (cell : Cell) (ty : FieldType), (hb_ty dA)[x.1]? = some (dA x.1, ty) ∧ H[a]? = some cell ∧ U.isArrayOf cell ty ∧ cell.vm ≠ .unknown ∧ x.2.1 ≤ cell.slots.size ∧ cell.slots.size.toInt32 = Int32.ofNat x.2.1 ∧ ∀ j : Nat, j < x.2.1 → cell.slots[j]? = some (hu_v x.2.2 j)
  | .inr o => ∃ (r : vw_C) (cell : Cell), vwCl[o.1]? = some r ∧ H[a]? = some cell ∧ cell.cls = D.1 o.1 ∧ cell.vm.isStatics = false ∧ cell.vm ≠ .unknown ∧ ∀ (k : Nat) (v : Value), k < r.2.2 → o.2[k]? = some v → cell.slots[D.2 o.1 k]? = some v
theorem hu_wk.kept {D : va_G} {dA : Nat → ClassId} {U : State} {H H1 : Heap} {a : Nat} {e : va_E} (h : hu_wk D dA U H a e) (hq : H1[a]? = H[a]?) : hu_wk D dA U H1 a e := by
  match e, h with
  | .inl x, ⟨ce, ty, h1, h2, h3⟩ => exact ⟨ce, ty, h1, hq.trans h2, h3⟩
  | .inr o, ⟨r, ce, h1, h2, h3⟩ => exact ⟨r, ce, h1, hq.trans h2, h3⟩
theorem hu_wk.lt {D : va_G} {dA : Nat → ClassId} {U : State} {H : Heap} {a : Nat} {e : va_E} (h : hu_wk D dA U H a e) : a < H.size := by
  match e, h with
  | .inl x, ⟨ce, ty, h1, h2, h3⟩ => exact (Array.getElem?_eq_some_iff.mp h2).1
  | .inr o, ⟨r, ce, h1, h2, h3⟩ => exact (Array.getElem?_eq_some_iff.mp h2).1
theorem hu_wk.moved {D : va_G} {dA : Nat → ClassId} {U V : State} {H : Heap} {a : Nat} {e : va_E} (hvm : U.vm.Alike V.vm) (h : hu_wk D dA U H a e) : hu_wk D dA V H a e := by
  match e, h with
  | .inl x, ⟨ce, ty, h1, h2, h3, h4⟩ => exact ⟨ce, ty, h1, h2, State.isArrayOf_alike hvm h3, h4⟩
  | .inr o, ⟨r, ce, h1, h2, h3⟩ => exact ⟨r, ce, h1, h2, h3⟩
/-- a whole cell can be read -/
theorem hu_wk.of {D : va_G} {dA : Nat → ClassId} {U : State} {H : Heap} {a : Nat} {e : va_E} (hK : va_K D vwCl (hb_ty dA) U) (hi : ∀ x, e = .inl x → ∃ ty, (hb_ty dA)[x.1]? = some (dA x.1, ty)) (h : va_at D vwCl (a, hu_e dA e) H) : hu_wk D dA U H a e := by
  match e, h with
  | .inl (i, n, f), h =>
    obtain ⟨ty, hty⟩ := hi _ rfl
    have hA := (hK.2 i _ hty).1
    obtain f | f | f | f | f := f
    · exact ⟨_, ty, hty, h, hA n (fun j => .int (f j)), (fun q => by cases q), (by show n ≤ (arrV _ _ _).slots.size; rw [arrV_size]; exact Nat.le_refl _), (by show (arrV _ _ _).slots.size.toInt32 = _; rw [arrV_size]), fun j hj => (by show (arrV _ _ _).slots[_]? = _; rw [arrV_read _ _ hj]; rfl)⟩
    · exact ⟨_, ty, hty, h, hA n (fun j => .long (f j)), (fun q => by cases q), (by show n ≤ (arrV _ _ _).slots.size; rw [arrV_size]; exact Nat.le_refl _), (by show (arrV _ _ _).slots.size.toInt32 = _; rw [arrV_size]), fun j hj => (by show (arrV _ _ _).slots[_]? = _; rw [arrV_read _ _ hj]; rfl)⟩
    · exact ⟨_, ty, hty, h, hA n (fun j => .float (f j)), (fun q => by cases q), (by show n ≤ (arrV _ _ _).slots.size; rw [arrV_size]; exact Nat.le_refl _), (by show (arrV _ _ _).slots.size.toInt32 = _; rw [arrV_size]), fun j hj => (by show (arrV _ _ _).slots[_]? = _; rw [arrV_read _ _ hj]; rfl)⟩
    · exact ⟨_, ty, hty, h, hA n (fun j => .double (f j)), (fun q => by cases q), (by show n ≤ (arrV _ _ _).slots.size; rw [arrV_size]; exact Nat.le_refl _), (by show (arrV _ _ _).slots.size.toInt32 = _; rw [arrV_size]), fun j hj => (by show (arrV _ _ _).slots[_]? = _; rw [arrV_read _ _ hj]; rfl)⟩
    · exact ⟨_, ty, hty, h, hA n (fun j => va_rf (f j)), (fun q => by cases q), (by show n ≤ (arrV _ _ _).slots.size; rw [arrV_size]; exact Nat.le_refl _), (by show (arrV _ _ _).slots.size.toInt32 = _; rw [arrV_size]), fun j hj => (by show (arrV _ _ _).slots[_]? = _; rw [arrV_read _ _ hj]; rfl)⟩
  | .inr o, ⟨r, h1, ce, q1, q2, q3, q4⟩ =>
    refine ⟨r, ce, h1, q1, q2, (by rw [q3]; rfl), (by rw [q3]; exact fun q => (by cases q)), fun k v hk hv => ?_⟩
    rw [q4 k hk]
    show some (vp_V o.2 k) = some v
    unfold vp_V
    rw [List.getD_eq_getElem?_getD, hv]
    rfl
theorem hu_ty7 (dA : Nat → ClassId) {i : Nat} (h : i < 7) : ∃ ty, (hb_ty dA)[i]? = some (dA i, ty) := by
  have h7 : i = 0 ∨ i = 1 ∨ i = 2 ∨ i = 3 ∨ i = 4 ∨ i = 5 ∨ i = 6 := by omega
  rcases h7 with rfl | rfl | rfl | rfl | rfl | rfl | rfl <;> exact ⟨_, rfl⟩
/-- the cells of one's own, whole -/
def hu_V (g : hu_G) (υ : hu_S) (H : Heap) : Prop := ∀ a e, υ.1 a = some e → va_at (hg_D g) vwCl (a, hu_e (hg_d g) e) H ∧ hg_A g a ∧ ∀ x, e = .inl x → x.1 < 7

/-- the literals of the texts' readers: owner, place, text -/
abbrev hu_lits : List (String × Nat × String) := [("HeirsAtLaw", 71, ""), ("HeirsAtLaw", 342, " dead"), ("HeirsAtLaw", 348, " wed "), ("HeirsAtLaw", 350, " single"), ("HeirsAtLaw", 352, " has "), ("HeirsAtLaw$BookReader", 38, "die"), ("HeirsAtLaw$BookReader", 44, "wed"), ("HeirsAtLaw$BookReader", 46, "part"), ("HeirsAtLaw$BookReader", 48, "give"), ("HeirsAtLaw$BookReader", 50, "leave"), ("HeirsAtLaw$BookReader", 52, "revoke"), ("HeirsAtLaw$BookReader", 54, "year"), ("HeirsAtLaw$SentenceReader", 30, "or"), ("HeirsAtLaw$SentenceReader", 43, "and"), ("HeirsAtLaw$SentenceReader", 61, "not"), ("HeirsAtLaw$SentenceReader", 63, "kin"), ("HeirsAtLaw$SentenceReader", 65, "of"), ("HeirsAtLaw$SentenceReader", 44, "dead"), ("HeirsAtLaw$SentenceReader", 46, "wed"), ("HeirsAtLaw$SentenceReader", 48, "orphan"), ("HeirsAtLaw$SentenceReader", 50, "coins"), ("HeirsAtLaw$SentenceReader", 52, "age"), ("HeirsAtLaw$SentenceReader", 54, "issue"), ("HeirsAtLaw$SentenceReader", 56, "number"), ("HeirsAtLaw$Reader", 9, ""), ("HeirsAtLaw$Reader", 80, " person parent wed will dies widow die part give leave revoke year or and not dead orphan kin of coins age issue number "), ("HeirsAtLaw$Reader", 82, " "), ("HeirsAtLaw$FamilyReader", 36, "person"), ("HeirsAtLaw$FamilyReader", 44, "parent"), ("HeirsAtLaw$FamilyReader", 48, "wed"), ("HeirsAtLaw$FamilyReader", 52, "will"), ("HeirsAtLaw$FamilyReader", 56, "dies"), ("HeirsAtLaw$FamilyReader", 63, "widow")]
/-- private methods, found by an object of a kind below -/
abbrev hu_sel : List Cond := [.selects RJ12 yJ11_ensureCapacityInternal yJ11_ensureCapacityInternal, .selects RJ12 yJ11_newCapacity yJ11_newCapacity, .selects RJ12 yJ11_putStringAt yJ11_putStringAt, .selects RJ12 yJ11_inflateIfNeededFor yJ11_inflateIfNeededFor, .selects RX7 yX6_byteAt yX6_byteAt, .selects RX20 yX6_byteAt yX6_byteAt, .selects RX22 yX6_byteAt yX6_byteAt]
theorem hu_selw {s U : State} {a : Array Value} (hW : s.WarmedH U.vm) {w : Cond} (hw : w ∈ hu_sel) (h : ∀ a, w.before a s = true) : w.before a U = true := by
  have hg : hu_sel.all goodWord = true := by decide +kernel
  exact word_at hW (good_of_word (List.all_eq_true.mp hg w hw)) (h #[])
/-- what the tables and the statics say all along -/
def hu_X (g : hu_G) (U : State) : Prop :=
  (∀ (i : Nat) (x : String × Nat × String), hu_lits[i]? = some x → vk_R x.1 x.2.1 x.2.2 (hg_l g i) U) ∧
  va_Z "java/lang/String" "COMPACT_STRINGS" "Z" (.int 1) (hg_A g) U U.heap ∧ va_Zq "jdk/internal/util/Preconditions" "SIOOBE_FORMATTER" "Ljava/util/function/BiFunction;" (hg_A g) U U.heap ∧
  va_Z "java/lang/Integer" "DigitOnes" "[B" (.ref (hg_z g 0)) (hg_A g) U U.heap ∧ va_Z "java/lang/Integer" "DigitTens" "[B" (.ref (hg_z g 1)) (hg_A g) U U.heap ∧
  va_Z "java/util/ArrayList" "DEFAULTCAPACITY_EMPTY_ELEMENTDATA" "[Ljava/lang/Object;" (.ref (hg_z g 2)) (hg_A g) U U.heap ∧
  va_Zq "java/lang/Throwable" "UNASSIGNED_STACK" "[Ljava/lang/StackTraceElement;" (hg_A g) U U.heap ∧ va_Zq "java/lang/Throwable" "SUPPRESSED_SENTINEL" "Ljava/util/List;" (hg_A g) U U.heap ∧
  va_Mi "[Ljava/lang/Object;" (hg_z g 3) U ∧ (∀ w ∈ hu_sel, ∀ a, w.before a U = true)
theorem hu_X.moved {g : hu_G} {s U : State} (hW : s.WarmedH U.vm) (hk : ∀ a : Nat, a < s.heap.size → ¬ hg_A g a → U.heap[a]? = s.heap[a]?) (h : hu_X g s) : hu_X g U := by
  obtain ⟨h1, h2, h3, h4, h5, h6, h7, h8, h9, h10⟩ := h
  exact ⟨fun i x hx => vk_R.warm hW (h1 i x hx), (va_Z.moved hW.alike h2).kept hk, (va_Zq.moved hW.alike h3).kept hk, (va_Z.moved hW.alike h4).kept hk, (va_Z.moved hW.alike h5).kept hk, (va_Z.moved hW.alike h6).kept hk, (va_Zq.moved hW.alike h7).kept hk, (va_Zq.moved hW.alike h8).kept hk, va_Mi.moved hW.alike h9, fun w hw a => hu_selw hW hw (h10 w hw)⟩
theorem hu_X.same {g : hu_G} {s U : State} (hv : s.vm = U.vm) (hh : s.heap = U.heap) (h : hu_X g s) : hu_X g U := by
  obtain ⟨h1, h2, h3, h4, h5, h6, h7, h8, h9, h10⟩ := h
  have ha : s.vm.Alike U.vm := by rw [hv]; exact Vm.Alike.refl _
  rw [hh] at h2 h3 h4 h5 h6 h7 h8
  exact ⟨fun i x hx => vk_R.same hv.symm (h1 i x hx), va_Z.moved ha h2, va_Zq.moved ha h3, va_Z.moved ha h4, va_Z.moved ha h5, va_Z.moved ha h6, va_Zq.moved ha h7, va_Zq.moved ha h8, va_Mi.moved ha h9, fun w hw a => hu_selw (s := s) (U := U) (hv ▸ State.WarmedH.refl s) hw (h10 w hw)⟩
/-- what is only read -/
def hu_O (g : hu_G) (U : State) (H : Heap) : Prop := ∀ a e, hg_r g a = some e → hu_wk (hg_D g) (hg_d g) U H a e ∧ ¬ hg_A g a
def hu_U (g : hu_G) (υ : hu_S) (U : State) : Prop := hu_V g υ U.heap ∧ hu_O g U U.heap ∧ (∀ q, U.heap.size ≤ q → hg_A g q) ∧ hu_X g U ∧ hb_K (hg_D g) (hg_d g) U
theorem hu_blind {g : hu_G} {υ : hu_S} {As : List Value} : FrameBlind (va_Pc As (hu_U g υ)) := fun v U f mk q => by
  obtain ⟨q0, q1, q2, q3, q4, q5⟩ := q
  have ha : U.vm.Alike (U.calling f mk v).vm := Vm.Alike.refl _
  exact ⟨q0, q1, fun a e h => ⟨(q2 a e h).1.moved ha, (q2 a e h).2⟩, q3, q4.same (s := U) (U := U.calling f mk v) rfl rfl, hb_K.same (s := U) (U := U.calling f mk v) rfl q5⟩
def hu_M (g : hu_G) (s : State) (mc ms : Nat) (υ : hu_S) (H : Heap) (locs : List Loc) (cells slots : Nat) : Prop :=
  hu_V g υ H ∧ hu_O g s s.heap ∧ va_S (hg_A g) s.heap H locs ∧ (∀ q, s.heap.size ≤ q → hg_A g q) ∧ hu_X g s ∧ cells + υ.2.1 ≤ mc ∧ slots + υ.2.2 ≤ ms
section HUM
variable {g : hu_G} {s : State} {mc ms : Nat} {υ : hu_S} {H : Heap} {locs : List Loc} {cells slots : Nat}
theorem hu_M.rd (hK : hb_K (hg_D g) (hg_d g) s) (M : hu_M g s mc ms υ H locs cells slots) {a : Nat} {e : va_E} (h : hu_at g υ a = some e) : hu_wk (hg_D g) (hg_d g) s H a e := by
  unfold hu_at at h
  cases hv : υ.1 a with
  | some x =>
    rw [hv] at h; cases h
    exact hu_wk.of hK.1 (fun x hx => hu_ty7 _ ((M.1 a _ hv).2.2 x hx)) (M.1 a _ hv).1
  | none =>
    rw [hv] at h
    have h1 := M.2.1 a e h
    exact h1.1.kept (M.2.2.1.2.1 a h1.1.lt h1.2)
theorem hu_f_at {a ci k : Nat} {v : Value} (h : hu_f g υ a ci k = some v) : ∃ fs, hu_at g υ a = some (.inr (ci, fs)) ∧ fs[k]? = some v := by
  unfold hu_f at h
  split at h
  · rename_i c fs hc
    split at h
    · rename_i he
      subst he
      exact ⟨fs, hc, h⟩
    · cases h
  · cases h
theorem hu_b_at {a i : Nat} {x : Nat × (Nat → Int32)} (h : hu_b g υ a i = some x) : hu_at g υ a = some (.inl (i, x.1, .inl x.2)) := by
  unfold hu_b at h
  split at h
  · rename_i c n f hc
    split at h
    · rename_i he
      subst he
      cases h
      exact hc
    · cases h
  · cases h
theorem hu_q_at {a i : Nat} {x : Nat × (Nat → Option Nat)} (h : hu_q g υ a i = some x) : hu_at g υ a = some (.inl (i, x.1, .inr (.inr (.inr (.inr x.2))))) := by
  unfold hu_q at h
  split at h
  · rename_i c n f hc
    split at h
    · rename_i he
      subst he
      cases h
      exact hc
    · cases h
  · cases h
/-- one cell is changed -/
theorem hu_M.one {H1 : Heap} {k : Nat} (M : hu_M g s mc ms υ H locs cells slots) {a : Nat} {e e0 : va_E} (h0 : υ.1 a = some e0) (hi : ∀ x, e = .inl x → x.1 < 7) (he : va_at (hg_D g) vwCl (a, hu_e (hg_d g) e) H1) (z : H1.size = H.size) (oq : ∀ q, q ≠ a → H1[q]? = H[q]?) : hu_M g s mc ms (va_up υ.1 a (some e), υ.2) H1 (locs ++ [⟨a, k⟩]) cells slots := by
  refine ⟨fun b x hb => ?_, M.2.1, M.2.2.1.put z oq (M.1 a _ h0).2.1, M.2.2.2⟩
  by_cases hba : b = a
  · subst hba
    have hb : va_up υ.1 b (some e) b = some x := hb
    rw [va_up, if_pos rfl] at hb
    cases hb
    exact ⟨he, (M.1 b _ h0).2.1, hi⟩
  · have hb : va_up υ.1 a (some e) b = some x := hb
    rw [va_up, if_neg hba] at hb
    exact ⟨(M.1 b x hb).1.kept (oq b hba), (M.1 b x hb).2⟩
/-- a cell is made -/
theorem hu_M.more {H1 : Heap} {n : Nat} (M : hu_M g s mc ms υ H locs cells slots) {e : va_E} (hi : ∀ x, e = .inl x → x.1 < 7) (he : va_at (hg_D g) vwCl (H.size, hu_e (hg_d g) e) H1) (z : H1.size = H.size + 1) (oq : ∀ q, q < H.size → H1[q]? = H[q]?) (h1 : 1 ≤ υ.2.1) (h2 : n ≤ υ.2.2) : hu_M g s mc ms (hu_new υ H.size e n) H1 locs (cells + 1) (slots + n) := by
  refine ⟨fun b x hb => ?_, M.2.1, ⟨Nat.le_trans M.2.2.1.1 (by omega), fun q q1 q2 => (oq q (Nat.lt_of_lt_of_le q1 M.2.2.1.1)).trans (M.2.2.1.2.1 q q1 q2), M.2.2.1.2.2⟩, M.2.2.2.1, M.2.2.2.2.1, ?_, ?_⟩
  · by_cases hba : b = H.size
    · subst hba
      have hb : va_up υ.1 H.size (some e) H.size = some x := hb
      rw [va_up, if_pos rfl] at hb
      cases hb
      exact ⟨he, M.2.2.2.1 _ M.2.2.1.1, hi⟩
    · have hb : va_up υ.1 H.size (some e) b = some x := hb
      rw [va_up, if_neg hba] at hb
      exact ⟨(M.1 b x hb).1.kept (oq b (M.1 b x hb).1.lt), (M.1 b x hb).2⟩
  · have := M.2.2.2.2.2.1
    show cells + 1 + (υ.2.1 - 1) ≤ mc
    omega
  · have := M.2.2.2.2.2.2
    show slots + n + (υ.2.2 - n) ≤ ms
    omega
theorem hu_M.fresh (M : hu_M g s mc ms υ H locs cells slots) : hu_at g υ H.size = none := by
  cases h : υ.1 H.size with
  | some e => exact absurd (M.1 _ e h).1.lt (Nat.lt_irrefl _)
  | none =>
    unfold hu_at
    rw [h]
    show hg_r g H.size = none
    cases h2 : hg_r g H.size with
    | none => rfl
    | some e => exact absurd (Nat.lt_of_lt_of_le (M.2.1 _ e h2).1.lt M.2.2.1.1) (Nat.lt_irrefl _)
/-- at a callee's entry -/
theorem hu_M.pre (hK : hb_K (hg_D g) (hg_d g) s) (M : hu_M g s mc ms υ H locs cells slots) {c1 s1 : Nat} {U : State} (hU : U.heap = H) (hW : s.WarmedH U.vm) : hu_U g (υ.1, c1, s1) U := by
  refine ⟨fun a e h => ?_, fun a e h => ?_, fun q hq => ?_, hu_X.moved hW (fun a h1 h2 => ?_) M.2.2.2.2.1, hb_K.warm hW hK⟩
  · rw [hU]; exact M.1 a e h
  · have h1 := M.2.1 a e h
    rw [hU]
    exact ⟨(h1.1.kept (M.2.2.1.2.1 a h1.1.lt h1.2)).moved hW.alike, h1.2⟩
  · rw [hU] at hq
    exact M.2.2.2.1 q (Nat.le_trans M.2.2.1.1 hq)
  · rw [hU]; exact M.2.2.1.2.1 a h1 h2
/-- behind a call -/
theorem hu_M.post (M : hu_M g s mc ms υ H locs cells slots) {c1 s1 : Nat} {υ1 : hu_S} {H1 : Heap} {locs1 : List Loc} (h1 : c1 ≤ υ.2.1) (h2 : s1 ≤ υ.2.2) (hV : hu_V g υ1 H1) (hS : va_S (hg_A g) s.heap H1 locs1) : hu_M g s mc ms (υ1.1, υ.2.1 - c1, υ.2.2 - s1) H1 locs1 (cells + c1) (slots + s1) := by
  refine ⟨fun a e h => hV a e h, M.2.1, hS, M.2.2.2.1, M.2.2.2.2.1, ?_, ?_⟩
  · have := M.2.2.2.2.2.1
    show cells + c1 + (υ.2.1 - c1) ≤ mc
    omega
  · have := M.2.2.2.2.2.2
    show slots + s1 + (υ.2.2 - s1) ≤ ms
    omega
theorem hu_M.recv (hK : hb_K (hg_D g) (hg_d g) s) (M : hu_M g s mc ms υ H locs cells slots) {a ci : Nat} (h : hu_k g υ a ci) {r : vw_C} (hc : vwCl[ci]? = some r) : ∃ ce : Cell, H[a]? = some ce ∧ ce.vm.isStatics = false ∧ s.vm.findClass r.1 = some ce.cls := by
  obtain ⟨fs, hf⟩ := h
  obtain ⟨r2, ce, h1, h2, h3, h4, -⟩ := M.rd hK hf
  exact ⟨ce, h2, h4, by rw [h3]; exact (hK.1.1 ci _ hc).2.1⟩
end HUM

