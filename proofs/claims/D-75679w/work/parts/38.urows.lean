/-! rows over any objects -/
set_option maxRecDepth 100000
def hu_R (f l c s : Nat) : Room := { frames := f, cells := c, slots := s, locals := l }
section HUR
variable {p : Program} {l : Launch} {e : Env} {R : Room} {s : State} {m : MethodId} {args : Array Value} {below : List Frame} {meth : Method} {c : Code} {H : Heap} {locs : List Loc} {cells slots : Nat} {QQ : State → Prop}
variable {cc : ByteArray} {pc nL mc ms idx a ci N : Nat} {ls : Array Slot} {rest st0 : List Value} {g : hu_G} {υ : hu_S} {own host CN sub : String} {T : u_T}
theorem hu_get (C : hb_C p s m args c cc nL own (hg_D g) (hg_d g)) (M : hu_M g s mc ms υ H locs cells slots) {k : Nat} {v : Value} (hv : hu_f g υ a ci k = some v) (hc : vwCl[ci]? = some (CN, T, N)) (hin : ∀ w ∈ u_ws CN T N, w ∈ lw_all) (hk : k < N) (q : Cond.fieldLink own idx (T k).1 (T k).2.1 (T k).2.2.1 ∈ lw_all) (hdg : decode cc pc = .ok (.getfield idx, 3)) (kk : W p l e R s m args below meth c H locs cells slots QQ (F0 m (pc + 3) ls (v :: rest))) : W p l e R s m args below meth c H locs cells slots QQ (F0 m pc ls (.ref a :: rest)) := by
  obtain ⟨fs, h1, h2⟩ := hu_f_at hv
  obtain ⟨r, ce, g1, g2, g3, g4, g5, g6⟩ := M.rd C.2 h1
  obtain rfl : r = (CN, T, N) := Option.some.inj (g1.symm.trans hc)
  obtain ⟨hS, hfc, kC, hkC, hkind⟩ := C.2.1.1 ci _ hc
  obtain ⟨cf, kf, fi, f, hi, hsl⟩ := hS k hk
  have hst := (u_facts hfc hkC (u_lays C.1.2.2.2.2 hin hk) hi).1
  exact W.getf C.1.1 C.1.2.1 C.1.2.2.2.1 (C.1.2.2.2.2 _ q) hi hst g2 g5 (by rw [hsl]; exact g6 k v hk h2) rfl rfl hdg kk
theorem hu_getS (C : hb_C p s m args c cc nL own (hg_D g) (hg_d g)) (M : hu_M g s mc ms υ H locs cells slots) {k : Nat} {v : Value} (hv : hu_f g υ a ci k = some v) (hc : vwCl[ci]? = some (CN, T, N)) (hin : ∀ w ∈ u_ws CN T N, w ∈ lw_all) (hk : k < N) (q : Cond.fieldLink own idx sub (T k).2.1 (T k).2.2.1 ∈ lw_all) (qs : Cond.sameField sub (T k).1 (T k).2.1 (T k).2.2.1 ∈ lw_all) (hdg : decode cc pc = .ok (.getfield idx, 3)) (kk : W p l e R s m args below meth c H locs cells slots QQ (F0 m (pc + 3) ls (v :: rest))) : W p l e R s m args below meth c H locs cells slots QQ (F0 m pc ls (.ref a :: rest)) := by
  obtain ⟨fs, h1, h2⟩ := hu_f_at hv
  obtain ⟨r, ce, g1, g2, g3, g4, g5, g6⟩ := M.rd C.2 h1
  obtain rfl : r = (CN, T, N) := Option.some.inj (g1.symm.trans hc)
  obtain ⟨hS, hfc, kC, hkC, hkind⟩ := C.2.1.1 ci _ hc
  obtain ⟨cf, kf, fi, f, hi, hsl⟩ := hS k hk
  have hst := (u_facts hfc hkC (u_lays C.1.2.2.2.2 hin hk) hi).1
  exact W.getf C.1.1 C.1.2.1 C.1.2.2.2.1 (C.1.2.2.2.2 _ q) (u_same (C.1.2.2.2.2 _ qs) _ hi) hst g2 g5 (by rw [hsl]; exact g6 k v hk h2) rfl rfl hdg kk
theorem hu_getN (C : hb_C p s m args c cc nL own (hg_D g) (hg_d g)) (M : hu_M g s mc ms υ H locs cells slots) {k : Nat} {v : Value} (hv : hu_f g υ a ci k = some v) (hc : vwCl[ci]? = some (CN, T, N)) (hin : ∀ w ∈ u_ws CN T N, w ∈ lw_all) (hk : k < N) (q : Cond.fieldLinkNest own idx (T k).1 (T k).2.1 (T k).2.2.1 host ∈ lw_tbl) (hdg : decode cc pc = .ok (.getfield idx, 3)) (kk : W p l e R s m args below meth c H locs cells slots QQ (F0 m (pc + 3) ls (v :: rest))) : W p l e R s m args below meth c H locs cells slots QQ (F0 m pc ls (.ref a :: rest)) := by
  obtain ⟨fs, h1, h2⟩ := hu_f_at hv
  obtain ⟨r, ce, g1, g2, g3, g4, g5, g6⟩ := M.rd C.2 h1
  obtain rfl : r = (CN, T, N) := Option.some.inj (g1.symm.trans hc)
  obtain ⟨hS, hfc, kC, hkC, hkind⟩ := C.2.1.1 ci _ hc
  obtain ⟨cf, kf, fi, f, hi, hsl⟩ := hS k hk
  have hst := (u_facts hfc hkC (u_lays C.1.2.2.2.2 hin hk) hi).1
  exact va_Wgetf C.1.1 C.1.2.1 C.1.2.2.2.1 ((C.2.2.1 _ q rfl).use rfl) hi hst g2 g5 (by rw [hsl]; exact g6 k v hk h2) rfl rfl hdg kk
theorem hu_put0 (C : hb_C p s m args c cc nL own (hg_D g) (hg_d g)) (M : hu_M g s mc ms υ H locs cells slots) {k : Nat} {v : Value} (hok : hu_ok υ a ci k) (hc : vwCl[ci]? = some (CN, T, N)) (hin : ∀ w ∈ u_ws CN T N, w ∈ lw_all) (ty0 : Nat → FieldType) (hty : ∀ k, k < N → parseFieldDescriptor (T k).2.2.1 = some (ty0 k)) (hnm : ∀ a, a < N → ∀ b, b < N → a ≠ b → (T a).2.1 ≠ (T b).2.1) (hk : k < N) (q : Cond.fieldLink own idx (T k).1 (T k).2.1 (T k).2.2.1 ∈ lw_all) (hfin : (T k).2.2.2 = false) {ty : FieldType} (hd : parseFieldDescriptor (T k).2.2.1 = some ty) (hn : narrow ty v = v) (hfit : fits ty v = true) (hdg : decode cc pc = .ok (.putfield idx, 3)) (kk : ∀ (H1 : Heap) (locs1 : List Loc), hu_M g s mc ms (hu_put υ a k v) H1 locs1 cells slots → W p l e R s m args below meth c H1 locs1 cells slots QQ (F0 m (pc + 3) ls (rest))) : W p l e R s m args below meth c H locs cells slots QQ (F0 m pc ls (v :: .ref a :: rest)) := by
  obtain ⟨fs, h1, h2⟩ := hok
  have hts := C.1.2.2.2.2
  have hap := va_apart (own := own) hts hin ty0 hty hnm C.2.1 hc
  obtain ⟨r, g1, ce, q1, q2, q3, q4⟩ := (M.1 a _ h1).1
  obtain rfl : r = (CN, T, N) := Option.some.inj (g1.symm.trans hc)
  obtain ⟨hS, hfc, kC, hkC, hkind⟩ := C.2.1.1 ci _ hc
  obtain ⟨cf, kf, fi, f, hi, hsl⟩ := hS k hk
  have hlay := hts _ (hin _ (u_in_lay hk))
  unfold u_lay at hlay
  rw [if_neg (by rw [hfin]; decide)] at hlay
  have hst := (u_facts hfc hkC (u_lays hts hin hk) hi).1
  have h6 := u_store hfc hkC hkind hlay hi hd hn hfit
  refine W.putK C.1.1 C.1.2.1 (f := f) ⟨C.1.2.2.2.1, hts _ q, ⟨_, _, _, hi⟩, hst⟩ (by rw [q2]; exact h6) q1 q3 (by rw [hsl]; exact k2_hasslot (q4 k hk)) rfl rfl hdg fun H' e1 e2 e3 => ?_
  rw [hsl] at e1 ⊢
  have M1 := M.one (k := (hg_D g).2 ci k) (e := .inr (ci, fs.set k v)) h1 (fun x hx => by cases hx) ⟨_, hc, t_OB.to (V := updV (vp_V fs) k v) ⟨_, e1, q2, q3, t_set q4 hap hk v⟩ (fun j _ => vp_updV_set h2 v j)⟩ e2 e3
  refine kk H' _ ?_
  have e5 : hu_put υ a k v = (va_up υ.1 a (some (.inr (ci, fs.set k v))), υ.2) := by
    unfold hu_put
    rw [h1]
  rw [e5]
  exact M1
theorem hu_putN (C : hb_C p s m args c cc nL own (hg_D g) (hg_d g)) (M : hu_M g s mc ms υ H locs cells slots) {k : Nat} {v : Value} (hok : hu_ok υ a ci k) (hc : vwCl[ci]? = some (CN, T, N)) (hin : ∀ w ∈ u_ws CN T N, w ∈ lw_all) (ty0 : Nat → FieldType) (hty : ∀ k, k < N → parseFieldDescriptor (T k).2.2.1 = some (ty0 k)) (hnm : ∀ a, a < N → ∀ b, b < N → a ≠ b → (T a).2.1 ≠ (T b).2.1) (hk : k < N) (q : Cond.fieldLinkNest own idx (T k).1 (T k).2.1 (T k).2.2.1 host ∈ lw_tbl) (hfin : (T k).2.2.2 = false) {ty : FieldType} (hd : parseFieldDescriptor (T k).2.2.1 = some ty) (hn : narrow ty v = v) (hfit : fits ty v = true) (hdg : decode cc pc = .ok (.putfield idx, 3)) (kk : ∀ (H1 : Heap) (locs1 : List Loc), hu_M g s mc ms (hu_put υ a k v) H1 locs1 cells slots → W p l e R s m args below meth c H1 locs1 cells slots QQ (F0 m (pc + 3) ls (rest))) : W p l e R s m args below meth c H locs cells slots QQ (F0 m pc ls (v :: .ref a :: rest)) := by
  obtain ⟨fs, h1, h2⟩ := hok
  have hts := C.1.2.2.2.2
  have hap := va_apart (own := own) hts hin ty0 hty hnm C.2.1 hc
  obtain ⟨r, g1, ce, q1, q2, q3, q4⟩ := (M.1 a _ h1).1
  obtain rfl : r = (CN, T, N) := Option.some.inj (g1.symm.trans hc)
  obtain ⟨hS, hfc, kC, hkC, hkind⟩ := C.2.1.1 ci _ hc
  obtain ⟨cf, kf, fi, f, hi, hsl⟩ := hS k hk
  have hlay := hts _ (hin _ (u_in_lay hk))
  unfold u_lay at hlay
  rw [if_neg (by rw [hfin]; decide)] at hlay
  have hst := (u_facts hfc hkC (u_lays hts hin hk) hi).1
  have h6 := u_store hfc hkC hkind hlay hi hd hn hfit
  refine va_WputK C.1.1 C.1.2.1 (f := f) C.1.2.2.2.1 ((C.2.2.1 _ q rfl).use rfl) hi hst (by rw [q2]; exact h6) q1 q3 (by rw [hsl]; exact k2_hasslot (q4 k hk)) rfl rfl hdg fun H' e1 e2 e3 => ?_
  rw [hsl] at e1 ⊢
  have M1 := M.one (k := (hg_D g).2 ci k) (e := .inr (ci, fs.set k v)) h1 (fun x hx => by cases hx) ⟨_, hc, t_OB.to (V := updV (vp_V fs) k v) ⟨_, e1, q2, q3, t_set q4 hap hk v⟩ (fun j _ => vp_updV_set h2 v j)⟩ e2 e3
  refine kk H' _ ?_
  have e5 : hu_put υ a k v = (va_up υ.1 a (some (.inr (ci, fs.set k v))), υ.2) := by
    unfold hu_put
    rw [h1]
  rw [e5]
  exact M1
theorem hu_putS (C : hb_C p s m args c cc nL own (hg_D g) (hg_d g)) (M : hu_M g s mc ms υ H locs cells slots) {k : Nat} {v : Value} (hok : hu_ok υ a ci k) (hc : vwCl[ci]? = some (CN, T, N)) (hin : ∀ w ∈ u_ws CN T N, w ∈ lw_all) (ty0 : Nat → FieldType) (hty : ∀ k, k < N → parseFieldDescriptor (T k).2.2.1 = some (ty0 k)) (hnm : ∀ a, a < N → ∀ b, b < N → a ≠ b → (T a).2.1 ≠ (T b).2.1) (hk : k < N) (q : Cond.fieldLink own idx sub (T k).2.1 (T k).2.2.1 ∈ lw_all) (qs : Cond.sameField sub (T k).1 (T k).2.1 (T k).2.2.1 ∈ lw_all) (hfin : (T k).2.2.2 = false) {ty : FieldType} (hd : parseFieldDescriptor (T k).2.2.1 = some ty) (hn : narrow ty v = v) (hfit : fits ty v = true) (hdg : decode cc pc = .ok (.putfield idx, 3)) (kk : ∀ (H1 : Heap) (locs1 : List Loc), hu_M g s mc ms (hu_put υ a k v) H1 locs1 cells slots → W p l e R s m args below meth c H1 locs1 cells slots QQ (F0 m (pc + 3) ls (rest))) : W p l e R s m args below meth c H locs cells slots QQ (F0 m pc ls (v :: .ref a :: rest)) := by
  obtain ⟨fs, h1, h2⟩ := hok
  have hts := C.1.2.2.2.2
  have hap := va_apart (own := own) hts hin ty0 hty hnm C.2.1 hc
  obtain ⟨r, g1, ce, q1, q2, q3, q4⟩ := (M.1 a _ h1).1
  obtain rfl : r = (CN, T, N) := Option.some.inj (g1.symm.trans hc)
  obtain ⟨hS, hfc, kC, hkC, hkind⟩ := C.2.1.1 ci _ hc
  obtain ⟨cf, kf, fi, f, hi, hsl⟩ := hS k hk
  have hlay := hts _ (hin _ (u_in_lay hk))
  unfold u_lay at hlay
  rw [if_neg (by rw [hfin]; decide)] at hlay
  have hst := (u_facts hfc hkC (u_lays hts hin hk) hi).1
  have h6 := u_store hfc hkC hkind hlay hi hd hn hfit
  refine W.putK C.1.1 C.1.2.1 (f := f) ⟨C.1.2.2.2.1, hts _ q, ⟨_, _, _, u_same (hts _ qs) _ hi⟩, hst⟩ (by rw [q2]; exact h6) q1 q3 (by rw [hsl]; exact k2_hasslot (q4 k hk)) rfl rfl hdg fun H' e1 e2 e3 => ?_
  rw [hsl] at e1 ⊢
  have M1 := M.one (k := (hg_D g).2 ci k) (e := .inr (ci, fs.set k v)) h1 (fun x hx => by cases hx) ⟨_, hc, t_OB.to (V := updV (vp_V fs) k v) ⟨_, e1, q2, q3, t_set q4 hap hk v⟩ (fun j _ => vp_updV_set h2 v j)⟩ e2 e3
  refine kk H' _ ?_
  have e5 : hu_put υ a k v = (va_up υ.1 a (some (.inr (ci, fs.set k v))), υ.2) := by
    unfold hu_put
    rw [h1]
  rw [e5]
  exact M1
theorem hu_putF (C : hb_C p s m args c cc nL own (hg_D g) (hg_d g)) (M : hu_M g s mc ms υ H locs cells slots) {k : Nat} {v : Value} (hok : hu_ok υ a ci k) (hc : vwCl[ci]? = some (CN, T, N)) (hin : ∀ w ∈ u_ws CN T N, w ∈ lw_all) (ty0 : Nat → FieldType) (hty : ∀ k, k < N → parseFieldDescriptor (T k).2.2.1 = some (ty0 k)) (hnm : ∀ a, a < N → ∀ b, b < N → a ≠ b → (T a).2.1 ≠ (T b).2.1) (hk : k < N) (q : Cond.fieldLink own idx (T k).1 (T k).2.1 (T k).2.2.1 ∈ lw_all) (hfin : (T k).2.2.2 = true) (hin2 : meth.name = "<init>") (hdecl : (T k).1 = own) {ty : FieldType} (hd : parseFieldDescriptor (T k).2.2.1 = some ty) (hn : narrow ty v = v) (hfit : fits ty v = true) (hdg : decode cc pc = .ok (.putfield idx, 3)) (kk : ∀ (H1 : Heap) (locs1 : List Loc), hu_M g s mc ms (hu_put υ a k v) H1 locs1 cells slots → W p l e R s m args below meth c H1 locs1 cells slots QQ (F0 m (pc + 3) ls (rest))) : W p l e R s m args below meth c H locs cells slots QQ (F0 m pc ls (v :: .ref a :: rest)) := by
  obtain ⟨fs, h1, h2⟩ := hok
  have hts := C.1.2.2.2.2
  have hap := va_apart (own := own) hts hin ty0 hty hnm C.2.1 hc
  obtain ⟨r, g1, ce, q1, q2, q3, q4⟩ := (M.1 a _ h1).1
  obtain rfl : r = (CN, T, N) := Option.some.inj (g1.symm.trans hc)
  obtain ⟨hS, hfc, kC, hkC, hkind⟩ := C.2.1.1 ci _ hc
  obtain ⟨cf, kf, fi, f, hi, hsl⟩ := hS k hk
  have hlay := hts _ (hin _ (u_in_lay hk))
  unfold u_lay at hlay
  rw [if_pos hfin] at hlay
  have hst := (u_facts hfc hkC (u_lays hts hin hk) hi).1
  have hcf : m.cls = cf := by
    obtain ⟨_, _, c', _, _, _, -, -, hf', -, -, -, hown2, -⟩ := Cond.laysFinal_spec hlay
    have e1 : c' = cf := by have := hi.symm.trans hf'; simp at this; exact this.1.symm
    rw [hdecl] at hown2
    rw [← e1]; exact Option.some.inj (C.1.2.2.2.1.symm.trans hown2)
  have h6 := u_fits hfc hkC hkind (Or.inr hlay) hi hd hn hfit
  refine W.putFinK C.1.1 C.1.2.1 C.1.2.2.2.1 (hts _ q) hi hst hcf hin2 (by rw [q2]; exact h6) q1 q3 (by rw [hsl]; exact k2_hasslot (q4 k hk)) rfl rfl hdg fun H' e1 e2 e3 => ?_
  rw [hsl] at e1 ⊢
  have M1 := M.one (k := (hg_D g).2 ci k) (e := .inr (ci, fs.set k v)) h1 (fun x hx => by cases hx) ⟨_, hc, t_OB.to (V := updV (vp_V fs) k v) ⟨_, e1, q2, q3, t_set q4 hap hk v⟩ (fun j _ => vp_updV_set h2 v j)⟩ e2 e3
  refine kk H' _ ?_
  have e5 : hu_put υ a k v = (va_up υ.1 a (some (.inr (ci, fs.set k v))), υ.2) := by
    unfold hu_put
    rw [h1]
  rw [e5]
  exact M1
theorem hu_newO (C : hb_C p s m args c cc nL own (hg_D g) (hg_d g)) (M : hu_M g s mc ms υ H locs cells slots) (hRc : mc ≤ R.cells) (hRs : ms ≤ R.slots) {fs : List Value} (hin : ∀ w ∈ u_ws CN T N, w ∈ lw_all) (ty : Nat → FieldType) (hty : ∀ k, k < N → parseFieldDescriptor (T k).2.2.1 = some (ty k)) (q1 : Cond.classLink own idx CN ∈ lw_all) (q2 : Cond.instantiable CN N ∈ lw_all) (q3 : Cond.initialized CN ∈ lw_all) (hc : vwCl[ci]? = some (CN, T, N)) (hfs : ∀ j, j < N → defaultValue (ty j) = vp_V fs j) (h1 : 1 ≤ υ.2.1) (h2 : N ≤ υ.2.2) (hdg : decode cc pc = .ok (.new idx, 3)) (kk : ∀ (q : Nat) (H1 : Heap), hu_at g υ q = none → hu_M g s mc ms (hu_new υ q (.inr (ci, fs)) N) H1 locs (cells + 1) (slots + N) → W p l e R s m args below meth c H1 locs (cells + 1) (slots + N) QQ (F0 m (pc + 3) ls (.ref q :: rest))) : W p l e R s m args below meth c H locs cells slots QQ (F0 m pc ls (rest)) := by
  have hts := C.1.2.2.2.2
  have hKn := C.2.1.1 ci _ hc
  have hm1 := M.2.2.2.2.2.1
  have hm2 := M.2.2.2.2.2.2
  refine W.newcK C.1.1 C.1.2.1 C.1.2.2.2.1 (hts _ q1) (hts _ q2) (hts _ q3) rfl hdg (by omega) (by omega) hKn.2.1 rfl fun H1 kC hkC e1 z1 o1 => ?_
  exact kk H.size H1 M.fresh (M.more (fun x hx => by cases hx) ⟨_, hc, (u_born ty hts hin hKn hkC e1 hty).to hfs⟩ z1 o1 h1 h2)
theorem hu_bald (C : hb_C p s m args c cc nL own (hg_D g) (hg_d g)) (M : hu_M g s mc ms υ H locs cells slots) {n : Nat} {f : Nat → Int32} {i : Int32} (hv : hu_b g υ a 0 = some (n, f)) (hin : vp_in i n) (hdg : decode cc pc = .ok (.baload, 1)) (kk : W p l e R s m args below meth c H locs cells slots QQ (F0 m (pc + 1) ls (.int (f i.toNatClampNeg) :: rest))) : W p l e R s m args below meth c H locs cells slots QQ (F0 m pc ls (.int i :: .ref a :: rest)) := by
  obtain ⟨ce, ty, h1, h2, h3, h4, h5, h6, h7⟩ := M.rd C.2 (hu_b_at hv)
  cases h1
  have hlt : i.toNatClampNeg < n := Nat.not_le.mp fun q => hin (Or.inr q)
  exact W.bald (v := .int (f i.toNatClampNeg)) C.1.1 C.1.2.1 h2 h3 h4 (fun q => q.elim (fun z => hin (Or.inl z)) (fun z => absurd (Nat.le_trans h5 z) (Nat.not_le.mpr hlt))) (h7 _ hlt) rfl rfl hdg kk
theorem hu_iald (C : hb_C p s m args c cc nL own (hg_D g) (hg_d g)) (M : hu_M g s mc ms υ H locs cells slots) {n : Nat} {f : Nat → Int32} {i : Int32} (hv : hu_b g υ a 1 = some (n, f)) (hin : vp_in i n) (hdg : decode cc pc = .ok (.iaload, 1)) (kk : W p l e R s m args below meth c H locs cells slots QQ (F0 m (pc + 1) ls (.int (f i.toNatClampNeg) :: rest))) : W p l e R s m args below meth c H locs cells slots QQ (F0 m pc ls (.int i :: .ref a :: rest)) := by
  obtain ⟨ce, ty, h1, h2, h3, h4, h5, h6, h7⟩ := M.rd C.2 (hu_b_at hv)
  cases h1
  have hlt : i.toNatClampNeg < n := Nat.not_le.mp fun q => hin (Or.inr q)
  exact W.iald (v := .int (f i.toNatClampNeg)) C.1.1 C.1.2.1 h2 h3 h4 (fun q => q.elim (fun z => hin (Or.inl z)) (fun z => absurd (Nat.le_trans h5 z) (Nat.not_le.mpr hlt))) (h7 _ hlt) rfl rfl hdg kk
theorem hu_aald (C : hb_C p s m args c cc nL own (hg_D g) (hg_d g)) (M : hu_M g s mc ms υ H locs cells slots) {n : Nat} {f : Nat → Option Nat} {i : Int32} (hv : hu_q g υ a 6 = some (n, f)) (hin : vp_in i n) (hdg : decode cc pc = .ok (.aaload, 1)) (kk : W p l e R s m args below meth c H locs cells slots QQ (F0 m (pc + 1) ls (va_rf (f i.toNatClampNeg) :: rest))) : W p l e R s m args below meth c H locs cells slots QQ (F0 m pc ls (.int i :: .ref a :: rest)) := by
  obtain ⟨ce, ty, h1, h2, h3, h4, h5, h6, h7⟩ := M.rd C.2 (hu_q_at hv)
  cases h1
  have hlt : i.toNatClampNeg < n := Nat.not_le.mp fun q => hin (Or.inr q)
  exact W.aald (v := va_rf (f i.toNatClampNeg)) C.1.1 C.1.2.1 h2 h3 rfl h4 (fun q => q.elim (fun z => hin (Or.inl z)) (fun z => absurd (Nat.le_trans h5 z) (Nat.not_le.mpr hlt))) (h7 _ hlt) rfl rfl hdg kk
theorem hu_blen (C : hb_C p s m args c cc nL own (hg_D g) (hg_d g)) (M : hu_M g s mc ms υ H locs cells slots) {n i : Nat} {f : Nat → Int32} (hv : hu_b g υ a i = some (n, f)) (hdg : decode cc pc = .ok (.arraylength, 1)) (kk : W p l e R s m args below meth c H locs cells slots QQ (F0 m (pc + 1) ls (.int (nI n) :: rest))) : W p l e R s m args below meth c H locs cells slots QQ (F0 m pc ls (.ref a :: rest)) := by
  obtain ⟨ce, ty, h1, h2, h3, h4, h5, h6, h7⟩ := M.rd C.2 (hu_b_at hv)
  exact W.alen (n := nI n) C.1.1 C.1.2.1 h2 h3 h6 rfl rfl hdg kk
theorem hu_qlen (C : hb_C p s m args c cc nL own (hg_D g) (hg_d g)) (M : hu_M g s mc ms υ H locs cells slots) {n i : Nat} {f : Nat → Option Nat} (hv : hu_q g υ a i = some (n, f)) (hdg : decode cc pc = .ok (.arraylength, 1)) (kk : W p l e R s m args below meth c H locs cells slots QQ (F0 m (pc + 1) ls (.int (nI n) :: rest))) : W p l e R s m args below meth c H locs cells slots QQ (F0 m pc ls (.ref a :: rest)) := by
  obtain ⟨ce, ty, h1, h2, h3, h4, h5, h6, h7⟩ := M.rd C.2 (hu_q_at hv)
  exact W.alen (n := nI n) C.1.1 C.1.2.1 h2 h3 h6 rfl rfl hdg kk
theorem hu_bast (C : hb_C p s m args c cc nL own (hg_D g) (hg_d g)) (M : hu_M g s mc ms υ H locs cells slots) {n : Nat} {f : Nat → Int32} {i x : Int32} (hv : υ.1 a = some (.inl (0, n, .inl f))) (hin : vp_in i n) (hdg : decode cc pc = .ok (.bastore, 1)) (kk : ∀ (H1 : Heap) (locs1 : List Loc), hu_M g s mc ms (hu_set υ a (0, n, .inl (upd f i.toNatClampNeg (vp_nar .byte x)))) H1 locs1 cells slots → W p l e R s m args below meth c H1 locs1 cells slots QQ (F0 m (pc + 1) ls (rest))) : W p l e R s m args below meth c H locs cells slots QQ (F0 m pc ls (.int x :: .int i :: .ref a :: rest)) := by
  have hlt : i.toNatClampNeg < n := Nat.not_le.mp fun q => hin (Or.inr q)
  have hb : H[a]? = some (vp_cell (hg_d g 0) (n, .inl f)) := (M.1 a _ hv).1
  refine W.bast C.1.1 C.1.2.1 hb ((C.2.1.2 0 _ rfl).1 n (fun j => .int (f j))) (fun q => by cases q) (by show ¬ (i < 0 ∨ (arrV _ _ _).slots.size ≤ _); rw [arrV_size]; exact hin) rfl rfl hdg fun H1 e z oq => kk H1 _ (M.one (e := .inl (0, n, .inl (upd f i.toNatClampNeg (vp_nar .byte x)))) hv (fun y hy => by cases hy; show (0 : Nat) < 7; decide) ?_ z oq)
  show H1[a]? = some (vp_cell (hg_d g 0) (n, .inl (upd f i.toNatClampNeg (vp_nar .byte x))))
  rw [e]
  rw [vp_cell_i, vp_cell_i, arrV_store]
  congr 2
  funext q
  by_cases hq : q = i.toNatClampNeg
  · subst hq
    simp [updV, upd, vp_nar]
    try rfl
  · simp [updV, upd, hq]
theorem hu_newB (C : hb_C p s m args c cc nL own (hg_D g) (hg_d g)) (M : hu_M g s mc ms υ H locs cells slots) (hRc : mc ≤ R.cells) (hRs : ms ≤ R.slots) {n : Int32} (q : Cond.arrayClass .byte ∈ lw_all) (hn : ¬ n < 0) (hb1 : n.toNatClampNeg ≤ 536870912) (h1 : 1 ≤ υ.2.1) (h2 : n.toNatClampNeg ≤ υ.2.2) (hdg : decode cc pc = .ok (.newarray .byte, 2)) (kk : ∀ (q : Nat) (H1 : Heap), hu_at g υ q = none → hu_M g s mc ms (hu_new υ q (.inl (0, n.toNatClampNeg, .inl (fun _ => 0))) n.toNatClampNeg) H1 locs (cells + 1) (slots + n.toNatClampNeg) → W p l e R s m args below meth c H1 locs (cells + 1) (slots + n.toNatClampNeg) QQ (F0 m (pc + 2) ls (.ref q :: rest))) : W p l e R s m args below meth c H locs cells slots QQ (F0 m pc ls (.int n :: rest)) := by
  have hm1 := M.2.2.2.2.2.1
  have hm2 := M.2.2.2.2.2.2
  refine va_newaK (atype := .byte) (g := F0 m pc ls (.int n :: rest)) C.1.1 C.1.2.1 (C.1.2.2.2.2 _ q) rfl hdg rfl hn rfl (by show n.toNatClampNeg * 1 ≤ _; omega) (by omega) (by omega) rfl (fun H1 cA e1 z1 o1 hA hcA => ?_)
  have hcd : cA = hg_d g 0 := by
    have h9 : s.vm.findClass ("[" ++ FieldType.byte.toString) = some (hg_d g 0) := (C.2.1.2 0 _ rfl).2
    exact Option.some.inj (hcA.symm.trans h9)
  subst hcd
  exact kk H.size H1 M.fresh (M.more (fun y hy => by cases hy; show (0 : Nat) < 7; decide) e1 z1 o1 h1 h2)
end HUR
section HUC
variable {p : Program} {l : Launch} {e : Env} {R : Room} {s : State} {m : MethodId} {args : Array Value} {below : List Frame} {meth : Method} {c : Code} {H : Heap} {locs : List Loc} {cells slots : Nat} {QQ : State → Prop}
variable {cc : ByteArray} {pc nL mc ms idx a ci n : Nat} {ls : Array Slot} {rest st0 : List Value} {g : hu_G} {υ : hu_S} {own host owner : String} {av : Array Value}
variable {x y : MethodName} {bytes : ByteArray} {maxL fr2 lo2 c1 s1 : Nat} {ret : Option FieldType} {As : List Value} {Qc : Array Value → State → Outcome → State → Prop}
def hu_B (g : hu_G) : hu_S → State → Prop := fun υ t => hu_V g υ t.heap
theorem hu_ki (M : hu_M g s mc ms υ H locs cells slots) (h1 : c1 ≤ υ.2.1) (h2 : s1 ≤ υ.2.2) {Q : Int32 → hu_S → Prop} (hr : va_Run p l e R s m args below meth c H locs cells slots c1 s1 (F0 m pc ls st0) rest (va_Qi Q (hu_B g) (hg_A g) av) (hg_A g)) (kk : ∀ (r : Int32) (υ1 : hu_S) (H1 : Heap) (locs1 : List Loc), Q r υ1 → hu_M g s mc ms (υ1.1, υ.2.1 - c1, υ.2.2 - s1) H1 locs1 (cells + c1) (slots + s1) → W p l e R s m args below meth c H1 locs1 (cells + c1) (slots + s1) QQ (F0 m (pc + 3) ls (.int r :: rest))) : W p l e R s m args below meth c H locs cells slots QQ (F0 m pc ls st0) :=
  va_calli hr M.2.2.1 (fun q _ h => h) (fun q h => h) (fun r u t H1 locs1 ht hvm hw hB hz hk hS => kk r u H1 locs1 hw (M.post h1 h2 (by rw [← ht]; exact hB) hS))
theorem hu_kv (M : hu_M g s mc ms υ H locs cells slots) (h1 : c1 ≤ υ.2.1) (h2 : s1 ≤ υ.2.2) {Q : hu_S → Prop} (hr : va_Run p l e R s m args below meth c H locs cells slots c1 s1 (F0 m pc ls st0) rest (va_Qv Q (hu_B g) (hg_A g) av) (hg_A g)) (kk : ∀ (υ1 : hu_S) (H1 : Heap) (locs1 : List Loc), Q υ1 → hu_M g s mc ms (υ1.1, υ.2.1 - c1, υ.2.2 - s1) H1 locs1 (cells + c1) (slots + s1) → W p l e R s m args below meth c H1 locs1 (cells + c1) (slots + s1) QQ (F0 m (pc + 3) ls (rest))) : W p l e R s m args below meth c H locs cells slots QQ (F0 m pc ls st0) :=
  va_callv hr M.2.2.1 (fun q _ h => h) (fun q h => h) (fun u t H1 locs1 ht hvm hw hB hz hk hS => kk u H1 locs1 hw (M.post h1 h2 (by rw [← ht]; exact hB) hS))
theorem hu_kr (M : hu_M g s mc ms υ H locs cells slots) (h1 : c1 ≤ υ.2.1) (h2 : s1 ≤ υ.2.2) {Q : Nat → hu_S → Prop} (hr : va_Run p l e R s m args below meth c H locs cells slots c1 s1 (F0 m pc ls st0) rest (va_Qr (fun _ : hu_S => True) (fun u r t => Q r u ∧ hu_V g u t.heap) (hg_A g) av) (hg_A g)) (kk : ∀ (r : Nat) (υ1 : hu_S) (H1 : Heap) (locs1 : List Loc), Q r υ1 → hu_M g s mc ms (υ1.1, υ.2.1 - c1, υ.2.2 - s1) H1 locs1 (cells + c1) (slots + s1) → W p l e R s m args below meth c H1 locs1 (cells + c1) (slots + s1) QQ (F0 m (pc + 3) ls (.ref r :: rest))) : W p l e R s m args below meth c H locs cells slots QQ (F0 m pc ls st0) :=
  va_callr hr M.2.2.1 (fun q _ h => h) (fun q h => h) (fun u r t H1 locs1 ht hvm hw hB hz hk hS => kk r u H1 locs1 hB.1 (M.post h1 h2 (by rw [← ht]; exact hB.2) hS))
theorem hu_rV (C : hb_C p s m args c cc nL own (hg_D g) (hg_d g)) (M : hu_M g s mc ms υ H locs cells slots) (hsz : ls.size = nL) (hRc : mc ≤ R.cells) (hRs : ms ≤ R.slots) (h1 : c1 ≤ υ.2.1) (h2 : s1 ≤ υ.2.2) (hk : hu_k g υ a ci) {r : vw_C} (hc : vwCl[ci]? = some r) (hMet : Met l y (ws_ y bytes maxL ret) (hu_R fr2 lo2 c1 s1) (va_Pc (.ref a :: As) (hu_U g (υ.1, c1, s1))) Qc c1 s1 (hg_A g)) (q1 : Cond.methodLink own idx y ∈ lw_all) (q2 : Cond.instanceMethod y ∈ lw_all) (q3 : Cond.selects r.1 y y ∈ lw_all) (q4 : Cond.initialized r.1 ∈ lw_all) (q5 : Cond.code y bytes maxL ret ∈ lw_all) (hcl : y.cls = r.1) (hd : y.cls ≠ "java/lang/invoke/MethodHandle" ∧ y.cls ≠ "java/lang/invoke/VarHandle" ∧ (parseMethodDescriptor y.desc).map (fun d => d.parameters.length) = some n) (hn : As.length = n) (hR : fr2 + 1 ≤ R.frames ∧ 8 + (maxL + 11) + lo2 ≤ R.locals) (hst : st0 = As.reverse ++ .ref a :: rest) (hcat : (rest.map fun v => v.category).sum ≤ 8) (hdg : decode cc pc = .ok (.invokevirtual idx, 3)) : va_Run p l e R s m args below meth c H locs cells slots c1 s1 (F0 m pc ls st0) rest (Qc (Value.ref a :: As).toArray) (hg_A g) :=
  va_runV (As := As) (rest := rest) C.1 hMet (cwV n C.1.2.2.2.2 (lw_V q1 q2 q3 q4 q5) rfl rfl rfl ⟨hcl, hd⟩ hR) ⟨hu_blind, M.recv C.2 hk hc, fun U hU hW => ⟨rfl, M.pre C.2 hU hW⟩⟩ rfl hn hsz hst (lv_room hcat) hdg ⟨by have := M.2.2.2.2.2.1; omega, by have := M.2.2.2.2.2.2; omega⟩
theorem hu_rVN (C : hb_C p s m args c cc nL own (hg_D g) (hg_d g)) (M : hu_M g s mc ms υ H locs cells slots) (hsz : ls.size = nL) (hRc : mc ≤ R.cells) (hRs : ms ≤ R.slots) (h1 : c1 ≤ υ.2.1) (h2 : s1 ≤ υ.2.2) (hk : hu_k g υ a ci) {r : vw_C} (hc : vwCl[ci]? = some r) (hMet : Met l y (ws_ y bytes maxL ret) (hu_R fr2 lo2 c1 s1) (va_Pc (.ref a :: As) (hu_U g (υ.1, c1, s1))) Qc c1 s1 (hg_A g)) (q1 : Cond.methodLinkNest own idx y host ∈ lw_tbl) (q2 : Cond.instanceMethod y ∈ lw_all) (q3 : Cond.selects r.1 y y ∈ lw_all) (q4 : Cond.initialized y.cls ∈ lw_all) (q5 : Cond.code y bytes maxL ret ∈ lw_all) (hd : y.cls ≠ "java/lang/invoke/MethodHandle" ∧ y.cls ≠ "java/lang/invoke/VarHandle" ∧ (parseMethodDescriptor y.desc).map (fun d => d.parameters.length) = some n) (hn : As.length = n) (hR : fr2 + 1 ≤ R.frames ∧ 8 + (maxL + 11) + lo2 ≤ R.locals) (hst : st0 = As.reverse ++ .ref a :: rest) (hcat : (rest.map fun v => v.category).sum ≤ 8) (hdg : decode cc pc = .ok (.invokevirtual idx, 3)) : va_Run p l e R s m args below meth c H locs cells slots c1 s1 (F0 m pc ls st0) rest (Qc (Value.ref a :: As).toArray) (hg_A g) :=
  va_runVN (As := As) (rest := rest) C.1 hMet ⟨va_cnB n C.1.2.2.2.2 (lw_meth q5) rfl rfl rfl (C.2.2.1 _ q1 rfl) (C.1.2.2.2.2 _ q4) hd hR, C.1.2.2.2.2 _ q2, C.1.2.2.2.2 _ q3⟩ ⟨hu_blind, M.recv C.2 hk hc, fun U hU hW => ⟨rfl, M.pre C.2 hU hW⟩⟩ rfl hn hsz hst (lv_room hcat) hdg ⟨by have := M.2.2.2.2.2.1; omega, by have := M.2.2.2.2.2.2; omega⟩
theorem hu_rU (C : hb_C p s m args c cc nL own (hg_D g) (hg_d g)) (M : hu_M g s mc ms υ H locs cells slots) (hsz : ls.size = nL) (hRc : mc ≤ R.cells) (hRs : ms ≤ R.slots) (h1 : c1 ≤ υ.2.1) (h2 : s1 ≤ υ.2.2) (hk : hu_k g υ a ci) {r : vw_C} (hc : vwCl[ci]? = some r) (hMet : Met l y (ws_ y bytes maxL ret) (hu_R fr2 lo2 c1 s1) (va_Pc (.ref a :: As) (hu_U g (υ.1, c1, s1))) Qc c1 s1 (hg_A g)) (q1 : Cond.methodLink own idx x ∈ lw_all) (qs : Cond.sameMethod x.cls owner x.name x.desc ∈ lw_all) (hdec : va_Decl s ⟨owner, x.name, x.desc⟩) (q2 : Cond.instanceMethod y ∈ lw_all) (q3 : (Cond.selects r.1 x y).before args s = true) (q4 : Cond.initialized y.cls ∈ lw_all) (q5 : Cond.code y bytes maxL ret ∈ lw_all) (hd : owner ≠ "java/lang/invoke/MethodHandle" ∧ owner ≠ "java/lang/invoke/VarHandle" ∧ (parseMethodDescriptor x.desc).map (fun d => d.parameters.length) = some n) (hn : As.length = n) (hR : fr2 + 1 ≤ R.frames ∧ 8 + (maxL + 11) + lo2 ≤ R.locals) (hst : st0 = As.reverse ++ .ref a :: rest) (hcat : (rest.map fun v => v.category).sum ≤ 8) (hdg : decode cc pc = .ok (.invokevirtual idx, 3)) : va_Run p l e R s m args below meth c H locs cells slots c1 s1 (F0 m pc ls st0) rest (Qc (Value.ref a :: As).toArray) (hg_A g) :=
  va_runU (As := As) (rest := rest) C.1 hMet (owner := owner) ⟨⟨rfl, rfl, hR.1, hR.2, pay_in C.1.2.2.2.2 (lw_meth q5), List.mem_cons_self⟩, C.1.2.2.2.2 _ q5, C.1.2.2.2.2 _ q4, ⟨hd.1, hd.2.1⟩, fun sig h => by have h9 := hd.2.2; rw [h] at h9; exact (Option.some.inj h9).symm, C.1.2.2.2.2 _ q1, C.1.2.2.2.2 _ qs, hdec, q3, C.1.2.2.2.2 _ q2⟩ ⟨hu_blind, M.recv C.2 hk hc, fun U hU hW => ⟨rfl, M.pre C.2 hU hW⟩⟩ rfl hn hsz hst (lv_room hcat) hdg ⟨by have := M.2.2.2.2.2.1; omega, by have := M.2.2.2.2.2.2; omega⟩
theorem hu_rS (C : hb_C p s m args c cc nL own (hg_D g) (hg_d g)) (M : hu_M g s mc ms υ H locs cells slots) (hsz : ls.size = nL) (hRc : mc ≤ R.cells) (hRs : ms ≤ R.slots) (h1 : c1 ≤ υ.2.1) (h2 : s1 ≤ υ.2.2) (hMet : Met l y (ws_ y bytes maxL ret) (hu_R fr2 lo2 c1 s1) (va_Pc As (hu_U g (υ.1, c1, s1))) Qc c1 s1 (hg_A g)) (q1 : Cond.methodLink own idx y ∈ lw_all) (q2 : Cond.static y ∈ lw_all) (q4 : Cond.initialized y.cls ∈ lw_all) (q5 : Cond.code y bytes maxL ret ∈ lw_all) (hd : y.cls ≠ "java/lang/invoke/MethodHandle" ∧ y.cls ≠ "java/lang/invoke/VarHandle" ∧ (parseMethodDescriptor y.desc).map (fun d => d.parameters.length) = some n) (hn : As.length = n) (hR : fr2 + 1 ≤ R.frames ∧ 8 + (maxL + 11) + lo2 ≤ R.locals) (hst : st0 = As.reverse ++ rest) (hcat : (rest.map fun v => v.category).sum ≤ 8) (hdg : decode cc pc = .ok (.invokestatic idx, 3)) : va_Run p l e R s m args below meth c H locs cells slots c1 s1 (F0 m pc ls st0) rest (Qc As.toArray) (hg_A g) :=
  va_runS (As := As) (rest := rest) C.1 hMet (va_cwS n C.1.2.2.2.2 (lw_S q1 q2 q4 q5) rfl rfl rfl hd hR) ⟨hu_blind, fun U hU hW => ⟨rfl, M.pre C.2 hU hW⟩⟩ rfl hn hsz hst (lv_room hcat) hdg ⟨by have := M.2.2.2.2.2.1; omega, by have := M.2.2.2.2.2.2; omega⟩
theorem hu_rI (C : hb_C p s m args c cc nL own (hg_D g) (hg_d g)) (M : hu_M g s mc ms υ H locs cells slots) (hsz : ls.size = nL) (hRc : mc ≤ R.cells) (hRs : ms ≤ R.slots) (h1 : c1 ≤ υ.2.1) (h2 : s1 ≤ υ.2.2) (hMet : Met l y (ws_ y bytes maxL none) (hu_R fr2 lo2 c1 s1) (va_Pc (.ref a :: As) (hu_U g (υ.1, c1, s1))) Qc c1 s1 (hg_A g)) (hi : y.name = "<init>") (q1 : Cond.methodLink own idx y ∈ lw_all) (q2 : Cond.instanceMethod y ∈ lw_all) (q4 : Cond.initialized y.cls ∈ lw_all) (q5 : Cond.code y bytes maxL none ∈ lw_all) (hd : y.cls ≠ "java/lang/invoke/MethodHandle" ∧ y.cls ≠ "java/lang/invoke/VarHandle" ∧ (parseMethodDescriptor y.desc).map (fun d => d.parameters.length) = some n) (hn : As.length = n) (hR : fr2 + 1 ≤ R.frames ∧ 8 + (maxL + 11) + lo2 ≤ R.locals) (hst : st0 = As.reverse ++ .ref a :: rest) (hcat : (rest.map fun v => v.category).sum ≤ 8) (hdg : decode cc pc = .ok (.invokespecial idx, 3)) : va_Run p l e R s m args below meth c H locs cells slots c1 s1 (F0 m pc ls st0) rest (Qc (Value.ref a :: As).toArray) (hg_A g) :=
  va_runI (As := As) (rest := rest) C.1 hMet (cwI n C.1.2.2.2.2 (lw_meth q5) rfl rfl rfl (C.1.2.2.2.2 _ q4) (C.1.2.2.2.2 _ q1) (C.1.2.2.2.2 _ q2) hi hd hR) ⟨hu_blind, fun U hU hW => ⟨rfl, M.pre C.2 hU hW⟩⟩ rfl hn hsz hst (lv_room hcat) hdg ⟨by have := M.2.2.2.2.2.1; omega, by have := M.2.2.2.2.2.2; omega⟩
theorem hu_rIN (C : hb_C p s m args c cc nL own (hg_D g) (hg_d g)) (M : hu_M g s mc ms υ H locs cells slots) (hsz : ls.size = nL) (hRc : mc ≤ R.cells) (hRs : ms ≤ R.slots) (h1 : c1 ≤ υ.2.1) (h2 : s1 ≤ υ.2.2) (hMet : Met l y (ws_ y bytes maxL none) (hu_R fr2 lo2 c1 s1) (va_Pc (.ref a :: As) (hu_U g (υ.1, c1, s1))) Qc c1 s1 (hg_A g)) (hi : y.name = "<init>") (q1 : Cond.methodLinkNest own idx y host ∈ lw_tbl) (q2 : Cond.instanceMethod y ∈ lw_all) (q4 : Cond.initialized y.cls ∈ lw_all) (q5 : Cond.code y bytes maxL none ∈ lw_all) (hd : y.cls ≠ "java/lang/invoke/MethodHandle" ∧ y.cls ≠ "java/lang/invoke/VarHandle" ∧ (parseMethodDescriptor y.desc).map (fun d => d.parameters.length) = some n) (hn : As.length = n) (hR : fr2 + 1 ≤ R.frames ∧ 8 + (maxL + 11) + lo2 ≤ R.locals) (hst : st0 = As.reverse ++ .ref a :: rest) (hcat : (rest.map fun v => v.category).sum ≤ 8) (hdg : decode cc pc = .ok (.invokespecial idx, 3)) : va_Run p l e R s m args below meth c H locs cells slots c1 s1 (F0 m pc ls st0) rest (Qc (Value.ref a :: As).toArray) (hg_A g) :=
  va_runIN (As := As) (rest := rest) C.1 hMet ⟨va_cnB n C.1.2.2.2.2 (lw_meth q5) rfl rfl rfl (C.2.2.1 _ q1 rfl) (C.1.2.2.2.2 _ q4) hd hR, hi, C.1.2.2.2.2 _ q2⟩ ⟨hu_blind, fun U hU hW => ⟨rfl, M.pre C.2 hU hW⟩⟩ rfl hn hsz hst (lv_room hcat) hdg ⟨by have := M.2.2.2.2.2.1; omega, by have := M.2.2.2.2.2.2; omega⟩
end HUC
section HUT
variable {l : Launch} {g : hu_G} {υ : hu_S} {y : MethodName} {cc : ByteArray} {nL fr lo : Nat} {vs : List Value} {LV : List (Nat × Value)}
theorem hu_Mi {Q : Int32 → hu_S → Prop} (hy : plainName y.cls = true) (hLV : lv_args 0 vs = LV) (hn : (lg_sl vs).length ≤ nL)
    (body : ∀ (p : Program) (e : Env) (s : State) (m : MethodId) (args : Array Value) (below : List Frame) (meth : Method) (c : Code) (H : Heap) (locs : List Loc) (cells slots : Nat) (ls : Array Slot) (QQ : State → Prop), hb_C p s m args c cc nL y.cls (hg_D g) (hg_d g) → hu_M g s υ.2.1 υ.2.2 υ H locs cells slots → meth.name = y.name → lv_has ls nL LV → (∀ (v : Int32) (υ1 : hu_S) (H : Heap) (locs : List Loc) (cells slots : Nat) (ls : Array Slot) (pc : Nat), decode cc pc = .ok (.ireturn, 1) → hu_M g s υ.2.1 υ.2.2 υ1 H locs cells slots → Q v υ1 → W p l e (hu_R fr lo υ.2.1 υ.2.2) s m args below meth c H locs cells slots QQ (F0 m pc ls [.int v])) → W p l e (hu_R fr lo υ.2.1 υ.2.2) s m args below meth c H locs cells slots QQ (F0 m 0 ls [])) :
    Met l y (ws_ y cc nL (some .int)) (hu_R fr lo υ.2.1 υ.2.2) (va_Pc vs (hu_U g υ)) (va_Qi Q (hu_B g) (hg_A g)) υ.2.1 υ.2.2 (hg_A g) := by
  refine Met.ofW (cc := cc) (maxL := nL) (ret := (some .int)) hy rfl ?_
  intro p e s m args below meth c s₁ B hml hv
  obtain ⟨rfl, hV, hO, hf, hX, hK⟩ := hv
  have hx := B.exec
  have hb := B.bytes
  have hr := B.returns
  have hts := atoms_spec (ws := ws_ y cc nL (some .int)) B.pre
  have hts : ∀ w ∈ lw_all, w.before _ s = true := fun w h => hts w (List.mem_cons_of_mem _ h)
  have hown : s.vm.findClass y.cls = some m.cls := findClass_of_methodNamed B.named
  have hlocks := B.notSynchronized
  have hl := lv_entry vs (n := nL) hn
  rw [lg_entry_eq]
  generalize (lg_sl vs ++ List.replicate (nL - (lg_sl vs).length) Slot.unset).toArray = ls at hl ⊢
  rw [hLV] at hl
  refine body p e s m _ below meth c _ _ _ _ ls _ ⟨⟨hx, hb, hml, hown, hts⟩, hK⟩ ⟨hV, hO, va_S.rf, hf, hX, by omega, by omega⟩ (name_of_methodNamed B.named B.method).1 hl ?_
  intro v υ1 H locs cells slots ls pc hd M hq
  exact W.widen (by have := M.2.2.2.2.2.1; omega) (by have := M.2.2.2.2.2.2; omega) (W.iret (v := v) hx hb hr (fun t ht hW => ⟨⟨v, υ1, rfl, hq, by show hu_V g υ1 t.heap; rw [ht]; exact M.1⟩, M.2.2.1.F ht⟩) M.2.2.1.2.2 hd)
theorem hu_Mz {Q : Int32 → hu_S → Prop} (hy : plainName y.cls = true) (hLV : lv_args 0 vs = LV) (hn : (lg_sl vs).length ≤ nL)
    (body : ∀ (p : Program) (e : Env) (s : State) (m : MethodId) (args : Array Value) (below : List Frame) (meth : Method) (c : Code) (H : Heap) (locs : List Loc) (cells slots : Nat) (ls : Array Slot) (QQ : State → Prop), hb_C p s m args c cc nL y.cls (hg_D g) (hg_d g) → hu_M g s υ.2.1 υ.2.2 υ H locs cells slots → meth.name = y.name → lv_has ls nL LV → (∀ (v : Int32) (υ1 : hu_S) (H : Heap) (locs : List Loc) (cells slots : Nat) (ls : Array Slot) (pc : Nat), decode cc pc = .ok (.ireturn, 1) → hu_M g s υ.2.1 υ.2.2 υ1 H locs cells slots → hb_B v → Q v υ1 → W p l e (hu_R fr lo υ.2.1 υ.2.2) s m args below meth c H locs cells slots QQ (F0 m pc ls [.int v])) → W p l e (hu_R fr lo υ.2.1 υ.2.2) s m args below meth c H locs cells slots QQ (F0 m 0 ls [])) :
    Met l y (ws_ y cc nL (some .boolean)) (hu_R fr lo υ.2.1 υ.2.2) (va_Pc vs (hu_U g υ)) (va_Qi Q (hu_B g) (hg_A g)) υ.2.1 υ.2.2 (hg_A g) := by
  refine Met.ofW (cc := cc) (maxL := nL) (ret := (some .boolean)) hy rfl ?_
  intro p e s m args below meth c s₁ B hml hv
  obtain ⟨rfl, hV, hO, hf, hX, hK⟩ := hv
  have hx := B.exec
  have hb := B.bytes
  have hr := B.returns
  have hts := atoms_spec (ws := ws_ y cc nL (some .boolean)) B.pre
  have hts : ∀ w ∈ lw_all, w.before _ s = true := fun w h => hts w (List.mem_cons_of_mem _ h)
  have hown : s.vm.findClass y.cls = some m.cls := findClass_of_methodNamed B.named
  have hlocks := B.notSynchronized
  have hl := lv_entry vs (n := nL) hn
  rw [lg_entry_eq]
  generalize (lg_sl vs ++ List.replicate (nL - (lg_sl vs).length) Slot.unset).toArray = ls at hl ⊢
  rw [hLV] at hl
  refine body p e s m _ below meth c _ _ _ _ ls _ ⟨⟨hx, hb, hml, hown, hts⟩, hK⟩ ⟨hV, hO, va_S.rf, hf, hX, by omega, by omega⟩ (name_of_methodNamed B.named B.method).1 hl ?_
  intro v υ1 H locs cells slots ls pc hd M hv hq
  exact W.widen (by have := M.2.2.2.2.2.1; omega) (by have := M.2.2.2.2.2.2; omega) (W.zret (v := v) hx hb hr (hb_Bn hv) (fun t ht hW => ⟨⟨v, υ1, rfl, hq, by show hu_V g υ1 t.heap; rw [ht]; exact M.1⟩, M.2.2.1.F ht⟩) M.2.2.1.2.2 hd)
theorem hu_Mb {Q : Int32 → hu_S → Prop} (hy : plainName y.cls = true) (hLV : lv_args 0 vs = LV) (hn : (lg_sl vs).length ≤ nL)
    (body : ∀ (p : Program) (e : Env) (s : State) (m : MethodId) (args : Array Value) (below : List Frame) (meth : Method) (c : Code) (H : Heap) (locs : List Loc) (cells slots : Nat) (ls : Array Slot) (QQ : State → Prop), hb_C p s m args c cc nL y.cls (hg_D g) (hg_d g) → hu_M g s υ.2.1 υ.2.2 υ H locs cells slots → meth.name = y.name → lv_has ls nL LV → (∀ (v : Int32) (υ1 : hu_S) (H : Heap) (locs : List Loc) (cells slots : Nat) (ls : Array Slot) (pc : Nat), decode cc pc = .ok (.ireturn, 1) → hu_M g s υ.2.1 υ.2.2 υ1 H locs cells slots → narrow .byte (.int v) = .int v → Q v υ1 → W p l e (hu_R fr lo υ.2.1 υ.2.2) s m args below meth c H locs cells slots QQ (F0 m pc ls [.int v])) → W p l e (hu_R fr lo υ.2.1 υ.2.2) s m args below meth c H locs cells slots QQ (F0 m 0 ls [])) :
    Met l y (ws_ y cc nL (some .byte)) (hu_R fr lo υ.2.1 υ.2.2) (va_Pc vs (hu_U g υ)) (va_Qi Q (hu_B g) (hg_A g)) υ.2.1 υ.2.2 (hg_A g) := by
  refine Met.ofW (cc := cc) (maxL := nL) (ret := (some .byte)) hy rfl ?_
  intro p e s m args below meth c s₁ B hml hv
  obtain ⟨rfl, hV, hO, hf, hX, hK⟩ := hv
  have hx := B.exec
  have hb := B.bytes
  have hr := B.returns
  have hts := atoms_spec (ws := ws_ y cc nL (some .byte)) B.pre
  have hts : ∀ w ∈ lw_all, w.before _ s = true := fun w h => hts w (List.mem_cons_of_mem _ h)
  have hown : s.vm.findClass y.cls = some m.cls := findClass_of_methodNamed B.named
  have hlocks := B.notSynchronized
  have hl := lv_entry vs (n := nL) hn
  rw [lg_entry_eq]
  generalize (lg_sl vs ++ List.replicate (nL - (lg_sl vs).length) Slot.unset).toArray = ls at hl ⊢
  rw [hLV] at hl
  refine body p e s m _ below meth c _ _ _ _ ls _ ⟨⟨hx, hb, hml, hown, hts⟩, hK⟩ ⟨hV, hO, va_S.rf, hf, hX, by omega, by omega⟩ (name_of_methodNamed B.named B.method).1 hl ?_
  intro v υ1 H locs cells slots ls pc hd M hv hq
  exact W.widen (by have := M.2.2.2.2.2.1; omega) (by have := M.2.2.2.2.2.2; omega) (W.zret (v := v) hx hb hr hv (fun t ht hW => ⟨⟨v, υ1, rfl, hq, by show hu_V g υ1 t.heap; rw [ht]; exact M.1⟩, M.2.2.1.F ht⟩) M.2.2.1.2.2 hd)
theorem hu_Mc {Q : Int32 → hu_S → Prop} (hy : plainName y.cls = true) (hLV : lv_args 0 vs = LV) (hn : (lg_sl vs).length ≤ nL)
    (body : ∀ (p : Program) (e : Env) (s : State) (m : MethodId) (args : Array Value) (below : List Frame) (meth : Method) (c : Code) (H : Heap) (locs : List Loc) (cells slots : Nat) (ls : Array Slot) (QQ : State → Prop), hb_C p s m args c cc nL y.cls (hg_D g) (hg_d g) → hu_M g s υ.2.1 υ.2.2 υ H locs cells slots → meth.name = y.name → lv_has ls nL LV → (∀ (v : Int32) (υ1 : hu_S) (H : Heap) (locs : List Loc) (cells slots : Nat) (ls : Array Slot) (pc : Nat), decode cc pc = .ok (.ireturn, 1) → hu_M g s υ.2.1 υ.2.2 υ1 H locs cells slots → narrow .char (.int v) = .int v → Q v υ1 → W p l e (hu_R fr lo υ.2.1 υ.2.2) s m args below meth c H locs cells slots QQ (F0 m pc ls [.int v])) → W p l e (hu_R fr lo υ.2.1 υ.2.2) s m args below meth c H locs cells slots QQ (F0 m 0 ls [])) :
    Met l y (ws_ y cc nL (some .char)) (hu_R fr lo υ.2.1 υ.2.2) (va_Pc vs (hu_U g υ)) (va_Qi Q (hu_B g) (hg_A g)) υ.2.1 υ.2.2 (hg_A g) := by
  refine Met.ofW (cc := cc) (maxL := nL) (ret := (some .char)) hy rfl ?_
  intro p e s m args below meth c s₁ B hml hv
  obtain ⟨rfl, hV, hO, hf, hX, hK⟩ := hv
  have hx := B.exec
  have hb := B.bytes
  have hr := B.returns
  have hts := atoms_spec (ws := ws_ y cc nL (some .char)) B.pre
  have hts : ∀ w ∈ lw_all, w.before _ s = true := fun w h => hts w (List.mem_cons_of_mem _ h)
  have hown : s.vm.findClass y.cls = some m.cls := findClass_of_methodNamed B.named
  have hlocks := B.notSynchronized
  have hl := lv_entry vs (n := nL) hn
  rw [lg_entry_eq]
  generalize (lg_sl vs ++ List.replicate (nL - (lg_sl vs).length) Slot.unset).toArray = ls at hl ⊢
  rw [hLV] at hl
  refine body p e s m _ below meth c _ _ _ _ ls _ ⟨⟨hx, hb, hml, hown, hts⟩, hK⟩ ⟨hV, hO, va_S.rf, hf, hX, by omega, by omega⟩ (name_of_methodNamed B.named B.method).1 hl ?_
  intro v υ1 H locs cells slots ls pc hd M hv hq
  exact W.widen (by have := M.2.2.2.2.2.1; omega) (by have := M.2.2.2.2.2.2; omega) (W.zret (v := v) hx hb hr hv (fun t ht hW => ⟨⟨v, υ1, rfl, hq, by show hu_V g υ1 t.heap; rw [ht]; exact M.1⟩, M.2.2.1.F ht⟩) M.2.2.1.2.2 hd)
theorem hu_Mv {Q : hu_S → Prop} (hy : plainName y.cls = true) (hLV : lv_args 0 vs = LV) (hn : (lg_sl vs).length ≤ nL)
    (body : ∀ (p : Program) (e : Env) (s : State) (m : MethodId) (args : Array Value) (below : List Frame) (meth : Method) (c : Code) (H : Heap) (locs : List Loc) (cells slots : Nat) (ls : Array Slot) (QQ : State → Prop), hb_C p s m args c cc nL y.cls (hg_D g) (hg_d g) → hu_M g s υ.2.1 υ.2.2 υ H locs cells slots → meth.name = y.name → lv_has ls nL LV → (∀ (υ1 : hu_S) (H : Heap) (locs : List Loc) (cells slots : Nat) (ls : Array Slot) (pc : Nat), decode cc pc = .ok (.return_, 1) → hu_M g s υ.2.1 υ.2.2 υ1 H locs cells slots → Q υ1 → W p l e (hu_R fr lo υ.2.1 υ.2.2) s m args below meth c H locs cells slots QQ (F0 m pc ls [])) → W p l e (hu_R fr lo υ.2.1 υ.2.2) s m args below meth c H locs cells slots QQ (F0 m 0 ls [])) :
    Met l y (ws_ y cc nL none) (hu_R fr lo υ.2.1 υ.2.2) (va_Pc vs (hu_U g υ)) (va_Qv Q (hu_B g) (hg_A g)) υ.2.1 υ.2.2 (hg_A g) := by
  refine Met.ofW (cc := cc) (maxL := nL) (ret := none) hy rfl ?_
  intro p e s m args below meth c s₁ B hml hv
  obtain ⟨rfl, hV, hO, hf, hX, hK⟩ := hv
  have hx := B.exec
  have hb := B.bytes
  have hr := B.returns
  have hts := atoms_spec (ws := ws_ y cc nL none) B.pre
  have hts : ∀ w ∈ lw_all, w.before _ s = true := fun w h => hts w (List.mem_cons_of_mem _ h)
  have hown : s.vm.findClass y.cls = some m.cls := findClass_of_methodNamed B.named
  have hlocks := B.notSynchronized
  have hl := lv_entry vs (n := nL) hn
  rw [lg_entry_eq]
  generalize (lg_sl vs ++ List.replicate (nL - (lg_sl vs).length) Slot.unset).toArray = ls at hl ⊢
  rw [hLV] at hl
  refine body p e s m _ below meth c _ _ _ _ ls _ ⟨⟨hx, hb, hml, hown, hts⟩, hK⟩ ⟨hV, hO, va_S.rf, hf, hX, by omega, by omega⟩ (name_of_methodNamed B.named B.method).1 hl ?_
  intro υ1 H locs cells slots ls pc hd M hq
  exact W.widen (by have := M.2.2.2.2.2.1; omega) (by have := M.2.2.2.2.2.2; omega) (W.vret hx hb hr (fun t ht hW => ⟨⟨υ1, rfl, hq, by show hu_V g υ1 t.heap; rw [ht]; exact M.1⟩, M.2.2.1.F ht⟩) M.2.2.1.2.2 hd)
theorem hu_Mr {Q : Nat → hu_S → Prop} {rt : FieldType} (hrt : (∃ n, rt = .object n) ∨ ∃ t, rt = .array t) (hy : plainName y.cls = true) (hLV : lv_args 0 vs = LV) (hn : (lg_sl vs).length ≤ nL)
    (body : ∀ (p : Program) (e : Env) (s : State) (m : MethodId) (args : Array Value) (below : List Frame) (meth : Method) (c : Code) (H : Heap) (locs : List Loc) (cells slots : Nat) (ls : Array Slot) (QQ : State → Prop), hb_C p s m args c cc nL y.cls (hg_D g) (hg_d g) → hu_M g s υ.2.1 υ.2.2 υ H locs cells slots → meth.name = y.name → lv_has ls nL LV → (∀ (v : Nat) (υ1 : hu_S) (H : Heap) (locs : List Loc) (cells slots : Nat) (ls : Array Slot) (pc : Nat), decode cc pc = .ok (.areturn, 1) → hu_M g s υ.2.1 υ.2.2 υ1 H locs cells slots → Q v υ1 → W p l e (hu_R fr lo υ.2.1 υ.2.2) s m args below meth c H locs cells slots QQ (F0 m pc ls [.ref v])) → W p l e (hu_R fr lo υ.2.1 υ.2.2) s m args below meth c H locs cells slots QQ (F0 m 0 ls [])) :
    Met l y (ws_ y cc nL (some rt)) (hu_R fr lo υ.2.1 υ.2.2) (va_Pc vs (hu_U g υ)) (va_Qr (fun _ : hu_S => True) (fun u r t => Q r u ∧ hu_V g u t.heap) (hg_A g)) υ.2.1 υ.2.2 (hg_A g) := by
  refine Met.ofW (cc := cc) (maxL := nL) (ret := (some rt)) hy rfl ?_
  intro p e s m args below meth c s₁ B hml hv
  obtain ⟨rfl, hV, hO, hf, hX, hK⟩ := hv
  have hx := B.exec
  have hb := B.bytes
  have hr := B.returns
  have hts := atoms_spec (ws := ws_ y cc nL (some rt)) B.pre
  have hts : ∀ w ∈ lw_all, w.before _ s = true := fun w h => hts w (List.mem_cons_of_mem _ h)
  have hown : s.vm.findClass y.cls = some m.cls := findClass_of_methodNamed B.named
  have hlocks := B.notSynchronized
  have hl := lv_entry vs (n := nL) hn
  rw [lg_entry_eq]
  generalize (lg_sl vs ++ List.replicate (nL - (lg_sl vs).length) Slot.unset).toArray = ls at hl ⊢
  rw [hLV] at hl
  refine body p e s m _ below meth c _ _ _ _ ls _ ⟨⟨hx, hb, hml, hown, hts⟩, hK⟩ ⟨hV, hO, va_S.rf, hf, hX, by omega, by omega⟩ (name_of_methodNamed B.named B.method).1 hl ?_
  intro v υ1 H locs cells slots ls pc hd M hq
  exact W.widen (by have := M.2.2.2.2.2.1; omega) (by have := M.2.2.2.2.2.2; omega) (W.aret (v := .ref v) hx hb hr hrt (Or.inr ⟨v, rfl⟩) (fun t ht hW => ⟨⟨υ1, v, rfl, trivial, hq, by show hu_V g υ1 t.heap; rw [ht]; exact M.1⟩, M.2.2.1.F ht⟩) M.2.2.1.2.2 hd)
end HUT
