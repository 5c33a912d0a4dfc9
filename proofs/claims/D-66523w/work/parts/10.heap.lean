/-! rows of the instructions that read and write cells of the world -/
def CLs (ci : Nat) (Cn : String) (T : u_T) (N : Nat) (ty : Nat → FieldType) : Prop :=
  classes[ci]? = some (Cn, T, N) ∧ (∀ w ∈ u_ws Cn T N, w ∈ lw_tbl) ∧ (∀ k, k < N → parseFieldDescriptor (T k).2.2.1 = some (ty k)) ∧ ∀ a, a < N → ∀ b, b < N → a ≠ b → (T a).2.1 ≠ (T b).2.1
theorem u_mvs {Cn : String} {T : u_T} {N : Nat} {w : Cond} (h : w ∈ u_ws Cn T N) : mvs w = true := by
  obtain ⟨k, -, rfl⟩ := List.mem_map.mp h
  unfold u_lay
  split <;> rfl
theorem CLs.ts {ci : Nat} {Cn : String} {T : u_T} {N : Nat} {ty : Nat → FieldType} (h : CLs ci Cn T N ty) {G : GG} {s : State} (hK : Kg G s) {A : Array Value} : ∀ w ∈ u_ws Cn T N, w.before A s = true := fun w hw => hK.wm (h.2.1 w hw) (u_mvs hw)
/-- a field's site: the class own names at index the field k of the table T -/
def FL (own : String) (index : Nat) (T : u_T) (k : Nat) : Prop :=
  (∃ ref : String, Cond.fieldLink own index ref (T k).2.1 (T k).2.2.1 ∈ lw_tbl ∧ (ref = (T k).1 ∨ Cond.sameField ref (T k).1 (T k).2.1 (T k).2.2.1 ∈ lw_tbl)) ∨ ∃ host : String, Cond.fieldLinkNest own index (T k).1 (T k).2.1 (T k).2.2.1 host ∈ lw_tbl
theorem fl1 {own ref : String} {index : Nat} {T : u_T} {k : Nat} (h : Cond.fieldLink own index ref (T k).2.1 (T k).2.2.1 ∈ lw_tbl) (e : ref = (T k).1) : FL own index T k := Or.inl ⟨ref, h, Or.inl e⟩
theorem fl2 {own ref : String} {index : Nat} {T : u_T} {k : Nat} (h : Cond.fieldLink own index ref (T k).2.1 (T k).2.2.1 ∈ lw_tbl) (e : Cond.sameField ref (T k).1 (T k).2.1 (T k).2.2.1 ∈ lw_tbl) : FL own index T k := Or.inl ⟨ref, h, Or.inr e⟩
theorem fl3 {own host : String} {index : Nat} {T : u_T} {k : Nat} (h : Cond.fieldLinkNest own index (T k).1 (T k).2.1 (T k).2.2.1 host ∈ lw_tbl) : FL own index T k := Or.inr ⟨host, h⟩
/-- an index in range -/
abbrev Ix (j : Int32) (t n : Nat) : Prop := j = nI t ∧ t < n ∧ n < 2 ^ 31
theorem Ix.inn {j : Int32} {t n : Nat} (h : Ix j t n) : vp_in j n := by rw [h.1]; exact vp_in_nI h.2.1 h.2.2
theorem Ix.cl {j : Int32} {t n : Nat} (h : Ix j t n) : j.toNatClampNeg = t := by rw [h.1]; exact nI_clamp (Nat.lt_trans h.2.1 h.2.2)
theorem in_app {F : Addr → Prop} {locs : List Loc} (h : ∀ q ∈ locs, F q.base) {x : Loc} (hx : F x.base) : ∀ q ∈ locs ++ [x], F q.base := by
  intro q hq
  rcases List.mem_append.mp hq with z | z
  · exact h q z
  · rw [List.mem_singleton.mp z]; exact hx
section HEAP
variable {E : EE} {cc : ByteArray} {own : String} {nL : Nat} {R : Room} {b : Bool} {cells slots : Nat} {w : Wd} {pc : Nat} {lv : List (Nat × Value)} {st : List Value} {k0 i0 a : Nat}
theorem aw_getf (C : Cx E cc own nL R) {ci N k index : Nat} {Cn : String} {T : u_T} {ty : Nat → FieldType} {fs : List Value} {v : Value} (cl : CLs ci Cn T N ty) (fl : FL own index T k) (hk : k < N) (d : decode cc pc = .ok (.getfield index, 3)) (he : w k0 i0 = some (a, .inr (ci, fs))) (hv : fs[k]? = some v) (kk : AW E b cells slots w (pc + 3) lv (v :: st)) : AW E b cells slots w pc lv (.ref a :: st) := by
  intro H locs ls h1 h2 h3 h4
  have hK := C.2.2.2.2.1
  have hP : va_P (gD (eG E)) classes [(a, .inr (ci, fs))] H := by
    intro k q hq
    cases k with
    | zero => cases hq; exact (h1.2.2.1 k0 i0 _ he).2
    | succ k => simp at hq
  rcases fl with ⟨ref, f1, f2⟩ | ⟨host, f1⟩
  · refine va_get C.1 C.2.1 (cl.ts hK) (fun _ h => h) C.2.2.2.1 hK.2.1 hP 0 rfl cl.1 k hk (hK.wm f1 rfl) (fun x hx => ?_) hv d (kk H locs ls h1 h2 h3 h4)
    rcases f2 with rfl | f2
    · exact hx
    · exact u_same (hK.wm (A := eA E) f2 rfl) x hx
  · exact va_getN C.1 C.2.1 (cl.ts hK) (fun _ h => h) C.2.2.2.1 hK.2.1 hP 0 rfl cl.1 k hk (hK.wm f1 rfl) (fun x hx => hx) hv d (kk H locs ls h1 h2 h3 h4)
theorem aw_putf (C : Cx E cc own nL R) (Fw : Cw E) {ci N k index : Nat} {Cn : String} {T : u_T} {ty : Nat → FieldType} {fs : List Value} {v : Value} (cl : CLs ci Cn T N ty) (fl : FL own index T k) (hk : k < N) (hfin : (T k).2.2.2 = false) (d : decode cc pc = .ok (.putfield index, 3)) (he : w k0 i0 = some (a, .inr (ci, fs))) (hl : k < fs.length) (hn : narrow (ty k) v = v) (hf : fits (ty k) v = true) (kk : AW E false cells slots (upW w k0 i0 (a, .inr (ci, fs.set k v))) (pc + 3) lv st) : AW E b cells slots w pc lv (v :: .ref a :: st) := by
  intro H locs ls h1 h2 h3 h4
  have hK := C.2.2.2.2.1
  have hts := cl.ts hK (A := eA E)
  have hap := va_apart (own := own) hts (fun _ h => h) ty cl.2.2.1 cl.2.2.2 hK.2.1 cl.1
  obtain ⟨hge, r, z1, cell, q1, q2, q3, q4⟩ := h1.2.2.1 k0 i0 _ he
  have hr : r = (Cn, T, N) := Option.some.inj (z1.symm.trans cl.1)
  subst hr
  obtain ⟨hS, hfc, kC, hkC, hkind⟩ := hK.2.1.1 ci _ cl.1
  obtain ⟨cf, kf, fi, f, hi, hsl⟩ := hS k hk
  have hlay := hts _ (u_in_lay hk)
  unfold u_lay at hlay
  rw [if_neg (by rw [hfin]; decide)] at hlay
  have hst := (u_facts hfc hkC (u_lays hts (fun _ h => h) hk) hi).1
  have h6 := u_store hfc hkC hkind hlay hi (cl.2.2.1 k hk) hn hf
  have fin : ∀ H' : Heap, H'[a]? = some (cell.setSlot f.slot v) → H'.size = H.size → (∀ q, q ≠ a → H'[q]? = H[q]?) → W (eP E) (eL E) (eE E) (eR E) (eS E) (eM E) (eA E) (eB E) (eH E) (eC E) H' (locs ++ [⟨a, f.slot⟩]) cells slots (eQ E) (F0 (eM E) (pc + 3) ls st) := by
    intro H' e1 e2 e3
    rw [hsl] at e1 ⊢
    refine kk H' _ ls (h1.put he ⟨_, cl.1, t_OB.to (V := updV (vp_V fs) k v) ⟨_, e1, q2, q3, t_set q4 hap hk v⟩ (fun j _ => vp_updV_set hl v j)⟩ e2 e3) (in_app h2 (Fw a hge)) (fun h => by cases h) h4
  rcases fl with ⟨ref, f1, f2⟩ | ⟨host, f1⟩
  · have hi' : (eS E).fieldFound? ref (T k).2.1 (T k).2.2.1 = some (cf, kf, fi, f) := by
      rcases f2 with rfl | f2
      · exact hi
      · exact u_same (hK.wm (A := eA E) f2 rfl) _ hi
    exact W.putK C.1 C.2.1 (f := f) ⟨C.2.2.2.1, hK.wm f1 rfl, ⟨_, _, _, hi'⟩, hst⟩ (by rw [q2]; exact h6) q1 q3 (by rw [hsl]; exact k2_hasslot (q4 k hk)) rfl rfl d fin
  · exact va_WputK C.1 C.2.1 (f := f) C.2.2.2.1 (hK.wm f1 rfl) hi hst (by rw [q2]; exact h6) q1 q3 (by rw [hsl]; exact k2_hasslot (q4 k hk)) rfl rfl d fin
/-- a final field, in a constructor of its class -/
theorem aw_putF (C : Cx E cc own nL R) (Fw : Cw E) (hin : (eH E).name = "<init>") {ci N k index : Nat} {Cn : String} {T : u_T} {ty : Nat → FieldType} {fs : List Value} {v : Value} (cl : CLs ci Cn T N ty) (fl : Cond.fieldLink own index (T k).1 (T k).2.1 (T k).2.2.1 ∈ lw_tbl) (hk : k < N) (hfin : (T k).2.2.2 = true) (hdecl : (T k).1 = own) (d : decode cc pc = .ok (.putfield index, 3)) (he : w k0 i0 = some (a, .inr (ci, fs))) (hl : k < fs.length) (hn : narrow (ty k) v = v) (hf : fits (ty k) v = true) (kk : AW E false cells slots (upW w k0 i0 (a, .inr (ci, fs.set k v))) (pc + 3) lv st) : AW E b cells slots w pc lv (v :: .ref a :: st) := by
  intro H locs ls h1 h2 h3 h4
  have hK := C.2.2.2.2.1
  have hts := cl.ts hK (A := eA E)
  have hap := va_apart (own := own) hts (fun _ h => h) ty cl.2.2.1 cl.2.2.2 hK.2.1 cl.1
  obtain ⟨hge, r, z1, cell, q1, q2, q3, q4⟩ := h1.2.2.1 k0 i0 _ he
  have hr : r = (Cn, T, N) := Option.some.inj (z1.symm.trans cl.1)
  subst hr
  obtain ⟨hS, hfc, kC, hkC, hkind⟩ := hK.2.1.1 ci _ cl.1
  obtain ⟨cf, kf, fi, f, hi, hsl⟩ := hS k hk
  have hlay := hts _ (u_in_lay hk)
  unfold u_lay at hlay
  rw [if_pos hfin] at hlay
  have hst := (u_facts hfc hkC (u_lays hts (fun _ h => h) hk) hi).1
  have hcf : (eM E).cls = cf := by
    obtain ⟨_, _, c', _, _, _, -, -, hf', -, -, -, hown2, -⟩ := Cond.laysFinal_spec hlay
    have e1 : c' = cf := by have := hi.symm.trans hf'; simp at this; exact this.1.symm
    rw [hdecl] at hown2
    rw [← e1]; exact Option.some.inj (C.2.2.2.1.symm.trans hown2)
  have h6 := u_fits hfc hkC hkind (Or.inr hlay) hi (cl.2.2.1 k hk) hn hf
  refine W.putFinK C.1 C.2.1 C.2.2.2.1 (hK.wm fl rfl) hi hst hcf hin (by rw [q2]; exact h6) q1 q3 (by rw [hsl]; exact k2_hasslot (q4 k hk)) rfl rfl d fun H' e1 e2 e3 => ?_
  rw [hsl] at e1 ⊢
  exact kk H' _ ls (h1.put he ⟨_, cl.1, t_OB.to (V := updV (vp_V fs) k v) ⟨_, e1, q2, q3, t_set q4 hap hk v⟩ (fun j _ => vp_updV_set hl v j)⟩ e2 e3) (in_app h2 (Fw a hge)) (fun h => by cases h) h4
-- arrays
theorem arr_w {G : GG} {H : Heap} {cA : ClassId} {x : vp_A} (h1 : hp G w H) (he : w k0 i0 = some (a, .inl (cA, x))) : va_P (gD G) classes [(a, .inl (cA, x))] H := by
  intro k q hq
  cases k with
  | zero => cases hq; exact (h1.2.2.1 k0 i0 _ he).2
  | succ k => simp at hq
theorem aw_iald (C : Cx E cc own nL R) {n t : Nat} {f : Nat → Int32} {j : Int32} (d : decode cc pc = .ok (.iaload, 1)) (he : w k0 i0 = some (a, .inl (gA (eG E) 0, n, .inl f))) (hx : Ix j t n) (kk : AW E b cells slots w (pc + 1) lv (.int (f t) :: st)) : AW E b cells slots w pc lv (.int j :: .ref a :: st) :=
  fun H locs ls h1 h2 h3 h4 => va_iald C.1 C.2.1 C.2.2.2.2.1.2.1 (arr_w h1 he) 0 0 rfl rfl hx.inn d (by rw [hx.cl]; exact kk H locs ls h1 h2 h3 h4)
theorem aw_zald (C : Cx E cc own nL R) {n t : Nat} {f : Nat → Int32} {j : Int32} (d : decode cc pc = .ok (.baload, 1)) (he : w k0 i0 = some (a, .inl (gA (eG E) 2, n, .inl f))) (hx : Ix j t n) (kk : AW E b cells slots w (pc + 1) lv (.int (f t) :: st)) : AW E b cells slots w pc lv (.int j :: .ref a :: st) :=
  fun H locs ls h1 h2 h3 h4 => va_zald C.1 C.2.1 C.2.2.2.2.1.2.1 (arr_w h1 he) 0 2 rfl rfl hx.inn d (by rw [hx.cl]; exact kk H locs ls h1 h2 h3 h4)
theorem aw_lald (C : Cx E cc own nL R) {n t : Nat} {f : Nat → Int64} {j : Int32} (d : decode cc pc = .ok (.laload, 1)) (he : w k0 i0 = some (a, .inl (gA (eG E) 1, n, .inr (.inl f)))) (hx : Ix j t n) (kk : AW E b cells slots w (pc + 1) lv (.long (f t) :: st)) : AW E b cells slots w pc lv (.int j :: .ref a :: st) :=
  fun H locs ls h1 h2 h3 h4 => va_lald C.1 C.2.1 C.2.2.2.2.1.2.1 (arr_w h1 he) 0 1 rfl rfl hx.inn d (by rw [hx.cl]; exact kk H locs ls h1 h2 h3 h4)
/-- an array of references; t0: its class's place in tysOf -/
theorem aw_aald (C : Cx E cc own nL R) (t0 : Nat) {cA : ClassId} {Cn : String} (ht : (tysOf (gA (eG E)))[t0]? = some (cA, .object Cn)) {n t : Nat} {f : Nat → Option Nat} {j : Int32} (d : decode cc pc = .ok (.aaload, 1)) (he : w k0 i0 = some (a, .inl (cA, n, .inr (.inr (.inr (.inr f)))))) (hx : Ix j t n) (kk : AW E b cells slots w (pc + 1) lv (va_rf (f t) :: st)) : AW E b cells slots w pc lv (.int j :: .ref a :: st) :=
  fun H locs ls h1 h2 h3 h4 => va_aldq C.1 C.2.1 C.2.2.2.2.1.2.1 (arr_w h1 he) 0 t0 rfl ht hx.inn d (by rw [hx.cl]; exact kk H locs ls h1 h2 h3 h4)
theorem aw_alen (C : Cx E cc own nL R) (t0 : Nat) {cA : ClassId} {ty : FieldType} (ht : (tysOf (gA (eG E)))[t0]? = some (cA, ty)) {x : vp_A} (d : decode cc pc = .ok (.arraylength, 1)) (he : w k0 i0 = some (a, .inl (cA, x))) (kk : AW E b cells slots w (pc + 1) lv (.int (nI x.1) :: st)) : AW E b cells slots w pc lv (.ref a :: st) :=
  fun H locs ls h1 h2 h3 h4 => va_alen C.1 C.2.1 C.2.2.2.2.1.2.1 (arr_w h1 he) 0 t0 rfl ht rfl d (kk H locs ls h1 h2 h3 h4)
theorem upd_setI (cA : ClassId) (n k : Nat) (f : Nat → Int32) (x : Int32) : (vp_cell cA (n, .inl f)).setSlot k (.int x) = vp_cell cA (n, .inl (upd f k x)) := by
  rw [vp_cell_i, vp_cell_i, arrV_store]
  congr 2
  funext q
  by_cases hq : q = k
  · subst hq; simp [updV, upd]
  · simp [updV, upd, hq]
theorem upd_setL (cA : ClassId) (n k : Nat) (f : Nat → Int64) (x : Int64) : (vp_cell cA (n, .inr (.inl f))).setSlot k (.long x) = vp_cell cA (n, .inr (.inl (vp_updL f k x))) := by
  rw [vp_cell_l, vp_cell_l, arrV_store]
  congr 2
  funext q
  by_cases hq : q = k
  · subst hq; simp [updV, vp_updL]
  · simp [updV, vp_updL, hq]
theorem upd_setQ (cA : ClassId) (n k : Nat) (f : Nat → Option Nat) (x : Option Nat) : (vp_cell cA (n, .inr (.inr (.inr (.inr f))))).setSlot k (va_rf x) = vp_cell cA (n, .inr (.inr (.inr (.inr (va_up f k x))))) := by
  rw [vp_cell_q, vp_cell_q, arrV_store]
  congr 2
  funext q
  by_cases hq : q = k
  · subst hq; simp [updV, va_up]
  · simp [updV, va_up, hq]
theorem nar_z (x : Int32) : narrow .boolean (.int x) = .int (vp_nar .boolean x) := by simp [vp_nar, narrow]
theorem aw_iast (C : Cx E cc own nL R) (Fw : Cw E) {n t : Nat} {f : Nat → Int32} {j x : Int32} (d : decode cc pc = .ok (.iastore, 1)) (he : w k0 i0 = some (a, .inl (gA (eG E) 0, n, .inl f))) (hx : Ix j t n) (kk : AW E false cells slots (upW w k0 i0 (a, .inl (gA (eG E) 0, n, .inl (upd f t x)))) (pc + 1) lv st) : AW E b cells slots w pc lv (.int x :: .int j :: .ref a :: st) := by
  intro H locs ls h1 h2 h3 h4
  obtain ⟨hge, hat⟩ := h1.2.2.1 k0 i0 _ he
  refine W.iast C.1 C.2.1 hat ((C.2.2.2.2.1.2.1.2 0 _ rfl).1 n (fun j => .int (f j))) (fun q => by cases q) (by show ¬ (j < 0 ∨ (arrV _ _ _).slots.size ≤ _); rw [arrV_size]; exact hx.inn) rfl rfl d fun H1 e z oq => ?_
  rw [hx.cl, upd_setI] at e
  exact kk H1 _ ls (h1.put he e z oq) (in_app h2 (Fw a hge)) (fun h => by cases h) h4
theorem aw_zast (C : Cx E cc own nL R) (Fw : Cw E) {n t : Nat} {f : Nat → Int32} {j x : Int32} (d : decode cc pc = .ok (.bastore, 1)) (he : w k0 i0 = some (a, .inl (gA (eG E) 2, n, .inl f))) (hx : Ix j t n) (kk : AW E false cells slots (upW w k0 i0 (a, .inl (gA (eG E) 2, n, .inl (upd f t (vp_nar .boolean x))))) (pc + 1) lv st) : AW E b cells slots w pc lv (.int x :: .int j :: .ref a :: st) := by
  intro H locs ls h1 h2 h3 h4
  obtain ⟨hge, hat⟩ := h1.2.2.1 k0 i0 _ he
  refine W.zast C.1 C.2.1 hat ((C.2.2.2.2.1.2.1.2 2 _ rfl).1 n (fun j => .int (f j))) (fun q => by cases q) (by show ¬ (j < 0 ∨ (arrV _ _ _).slots.size ≤ _); rw [arrV_size]; exact hx.inn) rfl rfl d fun H1 e z oq => ?_
  rw [hx.cl, nar_z, upd_setI] at e
  exact kk H1 _ ls (h1.put he e z oq) (in_app h2 (Fw a hge)) (fun h => by cases h) h4
theorem aw_last (C : Cx E cc own nL R) (Fw : Cw E) {n t : Nat} {f : Nat → Int64} {j : Int32} {x : Int64} (d : decode cc pc = .ok (.lastore, 1)) (he : w k0 i0 = some (a, .inl (gA (eG E) 1, n, .inr (.inl f)))) (hx : Ix j t n) (kk : AW E false cells slots (upW w k0 i0 (a, .inl (gA (eG E) 1, n, .inr (.inl (vp_updL f t x))))) (pc + 1) lv st) : AW E b cells slots w pc lv (.long x :: .int j :: .ref a :: st) := by
  intro H locs ls h1 h2 h3 h4
  obtain ⟨hge, hat⟩ := h1.2.2.1 k0 i0 _ he
  refine W.last C.1 C.2.1 hat ((C.2.2.2.2.1.2.1.2 1 _ rfl).1 n (fun j => .long (f j))) (fun q => by cases q) (by show ¬ (j < 0 ∨ (arrV _ _ _).slots.size ≤ _); rw [arrV_size]; exact hx.inn) rfl rfl d fun H1 e z oq => ?_
  rw [hx.cl, upd_setL] at e
  exact kk H1 _ ls (h1.put he e z oq) (in_app h2 (Fw a hge)) (fun h => by cases h) h4
theorem aw_aastN (C : Cx E cc own nL R) (Fw : Cw E) (t0 : Nat) {cA : ClassId} {Cn : String} (ht : (tysOf (gA (eG E)))[t0]? = some (cA, .object Cn)) {n t : Nat} {f : Nat → Option Nat} {j : Int32} (d : decode cc pc = .ok (.aastore, 1)) (he : w k0 i0 = some (a, .inl (cA, n, .inr (.inr (.inr (.inr f)))))) (hx : Ix j t n) (kk : AW E false cells slots (upW w k0 i0 (a, .inl (cA, n, .inr (.inr (.inr (.inr (va_up f t none))))))) (pc + 1) lv st) : AW E b cells slots w pc lv (.null :: .int j :: .ref a :: st) := by
  intro H locs ls h1 h2 h3 h4
  obtain ⟨hge, hat⟩ := h1.2.2.1 k0 i0 _ he
  refine va_WaastN (C := Cn) C.1 C.2.1 hat ((C.2.2.2.2.1.2.1.2 t0 _ ht).1 n (fun j => va_rf (f j))) (fun h => by cases h) (by show ¬ (j < 0 ∨ (arrV _ _ _).slots.size ≤ _); rw [arrV_size]; exact hx.inn) rfl rfl d fun H1 e z oq => ?_
  rw [hx.cl, show (Value.null) = va_rf none from rfl, upd_setQ] at e
  exact kk H1 _ ls (h1.put he e z oq) (in_app h2 (Fw a hge)) (fun h => by cases h) h4
/-- an object v of the world, of a class that can be cast to the array's component -/
theorem aw_aast (C : Cx E cc own nL R) (Fw : Cw E) (t0 : Nat) {cA : ClassId} {Cn : String} (ht : (tysOf (gA (eG E)))[t0]? = some (cA, .object Cn)) {n t v : Nat} {f : Nat → Option Nat} {j : Int32} {Cv : String} (d : decode cc pc = .ok (.aastore, 1)) (he : w k0 i0 = some (a, .inl (cA, n, .inr (.inr (.inr (.inr f)))))) (hv : Rcv w v Cv) (hca : Cv = Cn ∨ Cond.castable Cv Cn ∈ lw_tbl) (hx : Ix j t n) (kk : AW E false cells slots (upW w k0 i0 (a, .inl (cA, n, .inr (.inr (.inr (.inr (va_up f t (some v)))))))) (pc + 1) lv st) : AW E b cells slots w pc lv (.ref v :: .int j :: .ref a :: st) := by
  intro H locs ls h1 h2 h3 h4
  have hK := C.2.2.2.2.1
  obtain ⟨hge, hat⟩ := h1.2.2.1 k0 i0 _ he
  obtain ⟨kA, comp, r1, r2, r3, r4⟩ := (hK.2.1.2 t0 _ ht).2
  obtain ⟨cv, v1, v2, v3⟩ := hv.cell h1 hK
  obtain ⟨kv, hkv⟩ := Vm.classAt_of_findClass v3
  obtain ⟨kc, hkc⟩ := Vm.classAt_of_findClass r3
  have hasg : (eS E).vm.assignable cv.cls comp = true := by
    rcases hca with rfl | hca
    · cases v3.symm.trans r3
      exact va_asg _ _
    · obtain ⟨c3, c4, hc3, hc4, hasg⟩ := Cond.castable_spec (hK.wm (A := eA E) hca rfl)
      cases hc3.symm.trans v3
      cases hc4.symm.trans r3
      exact hasg
  refine W.aast C.1 C.2.1 hat (fun q z => by cases z) (fun z => by cases z) r1 r2 rfl hkc ⟨fun q => hx.inn (Or.inl q), by show _ < (arrV _ _ _).slots.size; rw [arrV_size, hx.cl]; exact hx.2.1⟩ v1 (fun q z => by rw [z] at v2; cases v2) hkv hasg rfl rfl d fun H1 e z oq => ?_
  rw [hx.cl, show (Value.ref v) = va_rf (some v) from rfl, upd_setQ] at e
  exact kk H1 _ ls (h1.put he e z oq) (in_app h2 (Fw a hge)) (fun h => by cases h) h4
end HEAP
