/-! rows of the instructions that touch no heap, over AW; printed by tools/gen_rows.py -/
def lvG : List (Nat × Value) → Nat → Option Value
  | [], _ => none
  | q :: t, n => cond (Nat.beq q.1 n) (some q.2) (lvG t n)
def lvK1 (i : Nat) : List (Nat × Value) → List (Nat × Value)
  | [] => []
  | q :: t => cond (Nat.beq q.1 i) (lvK1 i t) (cond (Nat.beq (q.1 + 1) i) (cond (Nat.beq q.2.category 2) (lvK1 i t) (q :: lvK1 i t)) (q :: lvK1 i t))
def lvK2 (i : Nat) : List (Nat × Value) → List (Nat × Value)
  | [] => []
  | q :: t => cond (Nat.beq q.1 i) (lvK2 i t) (cond (Nat.beq q.1 (i + 1)) (lvK2 i t) (cond (Nat.beq (q.1 + 1) i) (cond (Nat.beq q.2.category 2) (lvK2 i t) (q :: lvK2 i t)) (q :: lvK2 i t)))
def lvI (i : Nat) (v : Value) : List (Nat × Value) → List (Nat × Value)
  | [] => [(i, v)]
  | q :: t => cond (Nat.blt q.1 i) (q :: lvI i v t) ((i, v) :: q :: t)
def lvS (i : Nat) (v : Value) (l : List (Nat × Value)) : List (Nat × Value) := lvI i v (lvK1 i l)
def lvL (i : Nat) (v : Value) (l : List (Nat × Value)) : List (Nat × Value) := lvI i v (lvK2 i l)
theorem nb_t {a b : Nat} (h : a = b) : Nat.beq a b = true := by rw [h]; exact Nat.beq_refl b
theorem nb_f {a b : Nat} (h : ¬ a = b) : Nat.beq a b = false := Bool.eq_false_iff.mpr fun q => h (Nat.eq_of_beq_eq_true q)
theorem lvG_mem {l : List (Nat × Value)} {n : Nat} {v : Value} (h : lvG l n = some v) : (n, v) ∈ l := by
  induction l with
  | nil => cases h
  | cons q t ih =>
    unfold lvG at h
    by_cases e : q.1 = n
    · rw [nb_t e] at h
      cases h
      rw [← e]
      exact List.mem_cons_self
    · rw [nb_f e] at h
      exact List.mem_cons_of_mem _ (ih h)
theorem lvG_at {ls : Array Slot} {nL : Nat} {l : List (Nat × Value)} (hl : lv_has ls nL l) {n : Nat} {v : Value} (h : lvG l n = some v) : ls[n]? = some (.val v) := hl.2.2 (n, v) (lvG_mem h)
theorem lvI_mem {i : Nat} {v : Value} {l : List (Nat × Value)} {q : Nat × Value} (h : q ∈ lvI i v l) : q = (i, v) ∨ q ∈ l := by
  induction l with
  | nil => simp [lvI] at h; exact Or.inl h
  | cons r t ih =>
    unfold lvI at h
    cases hb : Nat.blt r.1 i with
    | true =>
      rw [hb] at h
      rcases List.mem_cons.mp h with h | h
      · exact Or.inr (by rw [h]; exact List.mem_cons_self)
      · rcases ih h with h | h
        · exact Or.inl h
        · exact Or.inr (List.mem_cons_of_mem _ h)
    | false =>
      rw [hb] at h
      rcases List.mem_cons.mp h with h | h
      · exact Or.inl h
      · exact Or.inr h
theorem lvK1_mem {i : Nat} {l : List (Nat × Value)} {q : Nat × Value} (h : q ∈ lvK1 i l) : q ∈ l ∧ ¬ q.1 = i ∧ ¬ (q.1 + 1 = i ∧ q.2.category = 2) := by
  induction l with
  | nil => cases h
  | cons r t ih =>
    have deep : q ∈ lvK1 i t → q ∈ r :: t ∧ ¬ q.1 = i ∧ ¬ (q.1 + 1 = i ∧ q.2.category = 2) := fun h => ⟨List.mem_cons_of_mem _ (ih h).1, (ih h).2⟩
    unfold lvK1 at h
    by_cases h1 : r.1 = i
    · rw [nb_t h1] at h; exact deep h
    · rw [nb_f h1] at h
      by_cases h2 : r.1 + 1 = i
      · rw [nb_t h2] at h
        by_cases h3 : r.2.category = 2
        · rw [nb_t h3] at h; exact deep h
        · rw [nb_f h3] at h
          rcases List.mem_cons.mp h with h | h
          · subst h; exact ⟨List.mem_cons_self, h1, fun z => h3 z.2⟩
          · exact deep h
      · rw [nb_f h2] at h
        rcases List.mem_cons.mp h with h | h
        · subst h; exact ⟨List.mem_cons_self, h1, fun z => h2 z.1⟩
        · exact deep h
theorem lvK2_mem {i : Nat} {l : List (Nat × Value)} {q : Nat × Value} (h : q ∈ lvK2 i l) : q ∈ l ∧ ¬ q.1 = i ∧ ¬ q.1 = i + 1 ∧ ¬ (q.1 + 1 = i ∧ q.2.category = 2) := by
  induction l with
  | nil => cases h
  | cons r t ih =>
    have deep : q ∈ lvK2 i t → q ∈ r :: t ∧ ¬ q.1 = i ∧ ¬ q.1 = i + 1 ∧ ¬ (q.1 + 1 = i ∧ q.2.category = 2) := fun h => ⟨List.mem_cons_of_mem _ (ih h).1, (ih h).2⟩
    unfold lvK2 at h
    by_cases h1 : r.1 = i
    · rw [nb_t h1] at h; exact deep h
    · rw [nb_f h1] at h
      by_cases h0 : r.1 = i + 1
      · rw [nb_t h0] at h; exact deep h
      · rw [nb_f h0] at h
        by_cases h2 : r.1 + 1 = i
        · rw [nb_t h2] at h
          by_cases h3 : r.2.category = 2
          · rw [nb_t h3] at h; exact deep h
          · rw [nb_f h3] at h
            rcases List.mem_cons.mp h with h | h
            · subst h; exact ⟨List.mem_cons_self, h1, h0, fun z => h3 z.2⟩
            · exact deep h
        · rw [nb_f h2] at h
          rcases List.mem_cons.mp h with h | h
          · subst h; exact ⟨List.mem_cons_self, h1, h0, fun z => h2 z.1⟩
          · exact deep h
theorem lvS_has {ls : Array Slot} {nL i : Nat} {v : Value} {l : List (Nat × Value)} (h : lv_has ls nL ((i, v) :: l.filter (fun q => !(q.1 == i) && !(q.1 + 1 == i && q.2.category == 2)))) : lv_has ls nL (lvS i v l) := by
  refine ⟨h.1, h.2.1, fun q hq => h.2.2 q ?_⟩
  rcases lvI_mem hq with e | e
  · rw [e]; exact List.mem_cons_self
  · obtain ⟨a1, a2, a3⟩ := lvK1_mem e
    exact List.mem_cons_of_mem _ (List.mem_filter.mpr ⟨a1, by simp [a2]; exact Decidable.not_and_iff_not_or_not.mp a3⟩)
theorem lvL_has {ls : Array Slot} {nL i : Nat} {v : Value} {l : List (Nat × Value)} (h : lv_has ls nL ((i, v) :: l.filter (fun q => !(q.1 == i) && (!(q.1 == i + 1) && !(q.1 + 1 == i && q.2.category == 2))))) : lv_has ls nL (lvL i v l) := by
  refine ⟨h.1, h.2.1, fun q hq => h.2.2 q ?_⟩
  rcases lvI_mem hq with e | e
  · rw [e]; exact List.mem_cons_self
  · obtain ⟨a1, a2, a3, a4⟩ := lvK2_mem e
    exact List.mem_cons_of_mem _ (List.mem_filter.mpr ⟨a1, by simp [a2, a3]; exact Decidable.not_and_iff_not_or_not.mp a4⟩)
/-- decoded instructions of a method, by pc -/
def dlk : List (Nat × Instr × Nat) → Nat → Option (Instr × Nat)
  | [], _ => none
  | q :: t, n => cond (Nat.beq q.1 n) (some q.2) (dlk t n)
theorem dlk_mem {l : List (Nat × Instr × Nat)} {n : Nat} {v : Instr × Nat} (h : dlk l n = some v) : (n, v) ∈ l := by
  induction l with
  | nil => cases h
  | cons q t ih =>
    unfold dlk at h
    by_cases e : q.1 = n
    · rw [nb_t e] at h
      cases h
      rw [← e]
      exact List.mem_cons_self
    · rw [nb_f e] at h
      exact List.mem_cons_of_mem _ (ih h)
theorem dec {b : ByteArray} {l : List (Nat × Instr × Nat)} (h : ∀ q ∈ l, decode b q.1 = .ok q.2) {pc : Nat} {v : Instr × Nat} (hi : dlk l pc = some v) : decode b pc = .ok v := h (pc, v) (dlk_mem hi)
section ROWS
variable {E : EE} {cc : ByteArray} {own : String} {nL : Nat} {R : Room} {b : Bool} {cells slots : Nat} {w : Wd} {pc : Nat} {lv : List (Nat × Value)} {st : List Value}
theorem AW.eq {pc' : Nat} {lv' : List (Nat × Value)} {st' : List Value} (h1 : pc = pc') (h2 : lv = lv') (h3 : st = st') (k : AW E b cells slots w pc' lv' st') : AW E b cells slots w pc lv st := by
  subst h1; subst h2; subst h3; exact k
theorem AW.wd {w' : Wd} (h : w = w') (k : AW E b cells slots w' pc lv st) : AW E b cells slots w pc lv st := h ▸ k
theorem AW.less {lv' : List (Nat × Value)} (h : ∀ q ∈ lv', lvG lv q.1 = some q.2) (k : AW E b cells slots w pc lv' st) : AW E b cells slots w pc lv st :=
  fun H locs ls h1 h2 h3 h4 => k H locs ls h1 h2 h3 ⟨h4.1, h4.2.1, fun q hq => h4.2.2 q (lvG_mem (h q hq))⟩
theorem AW.impure (k : AW E false cells slots w pc lv st) : AW E b cells slots w pc lv st := fun H locs ls h1 h2 _ h4 => k H locs ls h1 h2 (fun h => by cases h) h4
theorem AW.widen {c2 s2 : Nat} (hc : cells ≤ c2) (hs : slots ≤ s2) (k : AW E b c2 s2 w pc lv st) : AW E b cells slots w pc lv st := fun H locs ls h1 h2 h3 h4 => W.widen hc hs (k H locs ls h1 h2 h3 h4)
theorem AW.sub {w' : Wd} (h : ∀ (k i : Nat) (q : Nat × va_E), w' k i = some q → w k i = some q) (k : AW E b cells slots w' pc lv st) : AW E b cells slots w pc lv st := fun H locs ls h1 h2 h3 h4 => k H locs ls (h1.sub h) h2 h3 h4
theorem AW.topi {x : Int32} (k : ∀ y : Int32, y = x → AW E b cells slots w pc lv (.int y :: st)) : AW E b cells slots w pc lv (.int x :: st) := k x rfl
theorem AW.topl {x : Int64} (k : ∀ y : Int64, y = x → AW E b cells slots w pc lv (.long y :: st)) : AW E b cells slots w pc lv (.long x :: st) := k x rfl
theorem AT.less {lv' : List (Nat × Value)} {n : Nat} (h : ∀ q ∈ lv', lvG lv q.1 = some q.2) (k : AT E b cells slots w pc lv' n) : AT E b cells slots w pc lv n :=
  fun H locs ls st a h1 h2 h3 h4 => k H locs ls st a h1 h2 h3 ⟨h4.1, h4.2.1, fun q hq => h4.2.2 q (lvG_mem (h q hq))⟩
theorem aw_iconst (C : Cx E cc own nL R) {n : Int} {v : Int32} (d : decode cc pc = .ok (.iconst n, 1)) (hv : Int32.ofInt n = v) (k : AW E b cells slots w (pc + 1) lv (.int v :: st)) : AW E b cells slots w pc lv st :=
  fun H locs ls h1 h2 h3 h4 => lv_iconst C.1 C.2.1 d hv (k H locs ls h1 h2 h3 h4)
theorem aw_bipush (C : Cx E cc own nL R) {n : Int} {v : Int32} (d : decode cc pc = .ok (.bipush n, 2)) (hv : (Int8.ofInt n).toInt32 = v) (k : AW E b cells slots w (pc + 2) lv (.int v :: st)) : AW E b cells slots w pc lv st :=
  fun H locs ls h1 h2 h3 h4 => lv_bipush C.1 C.2.1 d hv (k H locs ls h1 h2 h3 h4)
theorem aw_sipush (C : Cx E cc own nL R) {n : Int} {v : Int32} (d : decode cc pc = .ok (.sipush n, 3)) (hv : (Int16.ofInt n).toInt32 = v) (k : AW E b cells slots w (pc + 3) lv (.int v :: st)) : AW E b cells slots w pc lv st :=
  fun H locs ls h1 h2 h3 h4 => lv_sipush C.1 C.2.1 d hv (k H locs ls h1 h2 h3 h4)
theorem aw_lconst (C : Cx E cc own nL R) {n : Fin 2} {v : Int64} (d : decode cc pc = .ok (.lconst n, 1)) (hv : Int64.ofNat (n : Nat) = v) (k : AW E b cells slots w (pc + 1) lv (.long v :: st)) : AW E b cells slots w pc lv st :=
  fun H locs ls h1 h2 h3 h4 => lv_lconst C.1 C.2.1 d hv (k H locs ls h1 h2 h3 h4)
theorem aw_null (C : Cx E cc own nL R)  (d : decode cc pc = .ok (.aconst_null, 1)) (k : AW E b cells slots w (pc + 1) lv (.null :: st)) : AW E b cells slots w pc lv st :=
  fun H locs ls h1 h2 h3 h4 => lv_null C.1 C.2.1 d (k H locs ls h1 h2 h3 h4)
theorem aw_iload_n (C : Cx E cc own nL R) {f : Fin 4} {i : Nat} {x : Int32} (d : decode cc pc = .ok (.iload_n f, 1)) (hi : (f : Nat) = i) (hl : lvG lv i = some (.int x)) (k : AW E b cells slots w (pc + 1) lv (.int x :: st)) : AW E b cells slots w pc lv st :=
  fun H locs ls h1 h2 h3 h4 => lv_iload_n C.1 C.2.1 d hi (lvG_at h4 hl) (k H locs ls h1 h2 h3 h4)
theorem aw_iload (C : Cx E cc own nL R) {i : Nat} {x : Int32} (d : decode cc pc = .ok (.iload i, 2)) (hl : lvG lv i = some (.int x)) (k : AW E b cells slots w (pc + 2) lv (.int x :: st)) : AW E b cells slots w pc lv st :=
  fun H locs ls h1 h2 h3 h4 => lv_iload C.1 C.2.1 d (lvG_at h4 hl) (k H locs ls h1 h2 h3 h4)
theorem aw_lload_n (C : Cx E cc own nL R) {f : Fin 4} {i : Nat} {x : Int64} (d : decode cc pc = .ok (.lload_n f, 1)) (hi : (f : Nat) = i) (hl : lvG lv i = some (.long x)) (k : AW E b cells slots w (pc + 1) lv (.long x :: st)) : AW E b cells slots w pc lv st :=
  fun H locs ls h1 h2 h3 h4 => lv_lload_n C.1 C.2.1 d hi (lvG_at h4 hl) (k H locs ls h1 h2 h3 h4)
theorem aw_lload (C : Cx E cc own nL R) {i : Nat} {x : Int64} (d : decode cc pc = .ok (.lload i, 2)) (hl : lvG lv i = some (.long x)) (k : AW E b cells slots w (pc + 2) lv (.long x :: st)) : AW E b cells slots w pc lv st :=
  fun H locs ls h1 h2 h3 h4 => lv_lload C.1 C.2.1 d (lvG_at h4 hl) (k H locs ls h1 h2 h3 h4)
theorem aw_aload_n (C : Cx E cc own nL R) {f : Fin 4} {i : Nat} {x : Nat} (d : decode cc pc = .ok (.aload_n f, 1)) (hi : (f : Nat) = i) (hl : lvG lv i = some (.ref x)) (k : AW E b cells slots w (pc + 1) lv (.ref x :: st)) : AW E b cells slots w pc lv st :=
  fun H locs ls h1 h2 h3 h4 => lv_aload_n C.1 C.2.1 d hi (lvG_at h4 hl) (k H locs ls h1 h2 h3 h4)
theorem aw_aload (C : Cx E cc own nL R) {i : Nat} {x : Nat} (d : decode cc pc = .ok (.aload i, 2)) (hl : lvG lv i = some (.ref x)) (k : AW E b cells slots w (pc + 2) lv (.ref x :: st)) : AW E b cells slots w pc lv st :=
  fun H locs ls h1 h2 h3 h4 => lv_aload C.1 C.2.1 d (lvG_at h4 hl) (k H locs ls h1 h2 h3 h4)
theorem aw_aload_nN (C : Cx E cc own nL R) {f : Fin 4} {i : Nat} (d : decode cc pc = .ok (.aload_n f, 1)) (hi : (f : Nat) = i) (hl : lvG lv i = some .null) (k : AW E b cells slots w (pc + 1) lv (.null :: st)) : AW E b cells slots w pc lv st :=
  fun H locs ls h1 h2 h3 h4 => lv_aload_nN C.1 C.2.1 d hi (lvG_at h4 hl) (k H locs ls h1 h2 h3 h4)
theorem aw_aloadN (C : Cx E cc own nL R) {i : Nat} (d : decode cc pc = .ok (.aload i, 2)) (hl : lvG lv i = some .null) (k : AW E b cells slots w (pc + 2) lv (.null :: st)) : AW E b cells slots w pc lv st :=
  fun H locs ls h1 h2 h3 h4 => lv_aloadN C.1 C.2.1 d (lvG_at h4 hl) (k H locs ls h1 h2 h3 h4)
theorem aw_istore_n (C : Cx E cc own nL R) {f : Fin 4} {i : Nat} {x : Int32} (d : decode cc pc = .ok (.istore_n f, 1)) (hi : (f : Nat) = i) (hn : i < nL) (k : AW E b cells slots w (pc + 1) (lvS i (.int x) lv) st) : AW E b cells slots w pc lv ((.int x) :: st) :=
  fun H locs ls h1 h2 h3 h4 => lv_istore_n C.1 C.2.1 d hi h4 (by rw [C.2.2.1]; exact hn) rfl (fun ls h4 => k H locs ls h1 h2 h3 (lvS_has h4))
theorem aw_istore (C : Cx E cc own nL R) {i : Nat} {x : Int32} (d : decode cc pc = .ok (.istore i, 2)) (hn : i < nL) (k : AW E b cells slots w (pc + 2) (lvS i (.int x) lv) st) : AW E b cells slots w pc lv ((.int x) :: st) :=
  fun H locs ls h1 h2 h3 h4 => lv_istore C.1 C.2.1 d  h4 (by rw [C.2.2.1]; exact hn) rfl (fun ls h4 => k H locs ls h1 h2 h3 (lvS_has h4))
theorem aw_astore_n (C : Cx E cc own nL R) {f : Fin 4} {i : Nat} {x : Nat} (d : decode cc pc = .ok (.astore_n f, 1)) (hi : (f : Nat) = i) (hn : i < nL) (k : AW E b cells slots w (pc + 1) (lvS i (.ref x) lv) st) : AW E b cells slots w pc lv ((.ref x) :: st) :=
  fun H locs ls h1 h2 h3 h4 => lv_astore_n C.1 C.2.1 d hi h4 (by rw [C.2.2.1]; exact hn) rfl (fun ls h4 => k H locs ls h1 h2 h3 (lvS_has h4))
theorem aw_astore (C : Cx E cc own nL R) {i : Nat} {x : Nat} (d : decode cc pc = .ok (.astore i, 2)) (hn : i < nL) (k : AW E b cells slots w (pc + 2) (lvS i (.ref x) lv) st) : AW E b cells slots w pc lv ((.ref x) :: st) :=
  fun H locs ls h1 h2 h3 h4 => lv_astore C.1 C.2.1 d  h4 (by rw [C.2.2.1]; exact hn) rfl (fun ls h4 => k H locs ls h1 h2 h3 (lvS_has h4))
theorem aw_astore_nN (C : Cx E cc own nL R) {f : Fin 4} {i : Nat} (d : decode cc pc = .ok (.astore_n f, 1)) (hi : (f : Nat) = i) (hn : i < nL) (k : AW E b cells slots w (pc + 1) (lvS i .null lv) st) : AW E b cells slots w pc lv (.null :: st) :=
  fun H locs ls h1 h2 h3 h4 => lv_astore_nN C.1 C.2.1 d hi h4 (by rw [C.2.2.1]; exact hn) rfl (fun ls h4 => k H locs ls h1 h2 h3 (lvS_has h4))
theorem aw_astoreN (C : Cx E cc own nL R) {i : Nat} (d : decode cc pc = .ok (.astore i, 2)) (hn : i < nL) (k : AW E b cells slots w (pc + 2) (lvS i .null lv) st) : AW E b cells slots w pc lv (.null :: st) :=
  fun H locs ls h1 h2 h3 h4 => lv_astoreN C.1 C.2.1 d  h4 (by rw [C.2.2.1]; exact hn) rfl (fun ls h4 => k H locs ls h1 h2 h3 (lvS_has h4))
theorem aw_lstore_n (C : Cx E cc own nL R) {f : Fin 4} {i : Nat} {x : Int64} (d : decode cc pc = .ok (.lstore_n f, 1)) (hi : (f : Nat) = i) (hn : i + 1 < nL) (k : AW E b cells slots w (pc + 1) (lvL i (.long x) lv) st) : AW E b cells slots w pc lv ((.long x) :: st) :=
  fun H locs ls h1 h2 h3 h4 => lv_lstore_n C.1 C.2.1 d hi h4 (by rw [C.2.2.1]; exact hn) rfl (fun ls h4 => k H locs ls h1 h2 h3 (lvL_has h4))
theorem aw_lstore (C : Cx E cc own nL R) {i : Nat} {x : Int64} (d : decode cc pc = .ok (.lstore i, 2)) (hn : i + 1 < nL) (k : AW E b cells slots w (pc + 2) (lvL i (.long x) lv) st) : AW E b cells slots w pc lv ((.long x) :: st) :=
  fun H locs ls h1 h2 h3 h4 => lv_lstore C.1 C.2.1 d  h4 (by rw [C.2.2.1]; exact hn) rfl (fun ls h4 => k H locs ls h1 h2 h3 (lvL_has h4))
theorem aw_iinc (C : Cx E cc own nL R) {i : Nat} {n : Int} {x v : Int32} (d : decode cc pc = .ok (.iinc i n, 3)) (hl : lvG lv i = some (.int x)) (hv : x + Int32.ofInt n = v) (hn : i < nL) (k : AW E b cells slots w (pc + 3) (lvS i (.int v) lv) st) : AW E b cells slots w pc lv st := by
  intro H locs ls h1 h2 h3 h4
  obtain ⟨kk, hk⟩ := List.getElem?_of_mem (lvG_mem hl)
  exact lv_iinc C.1 C.2.1 d h4 hk hv (by rw [C.2.2.1]; exact hn) rfl (fun ls h4 => k H locs ls h1 h2 h3 (lvS_has h4))
theorem aw_iadd (C : Cx E cc own nL R) {x y : Int32} (d : decode cc pc = .ok (.iadd, 1)) (k : AW E b cells slots w (pc + 1) lv (.int (x + y) :: st)) : AW E b cells slots w pc lv (.int y :: .int x :: st) :=
  fun H locs ls h1 h2 h3 h4 => lv_iadd C.1 C.2.1 d (k H locs ls h1 h2 h3 h4)
theorem aw_isub (C : Cx E cc own nL R) {x y : Int32} (d : decode cc pc = .ok (.isub, 1)) (k : AW E b cells slots w (pc + 1) lv (.int (x - y) :: st)) : AW E b cells slots w pc lv (.int y :: .int x :: st) :=
  fun H locs ls h1 h2 h3 h4 => lv_isub C.1 C.2.1 d (k H locs ls h1 h2 h3 h4)
theorem aw_imul (C : Cx E cc own nL R) {x y : Int32} (d : decode cc pc = .ok (.imul, 1)) (k : AW E b cells slots w (pc + 1) lv (.int (x * y) :: st)) : AW E b cells slots w pc lv (.int y :: .int x :: st) :=
  fun H locs ls h1 h2 h3 h4 => lv_imul C.1 C.2.1 d (k H locs ls h1 h2 h3 h4)
theorem aw_iand (C : Cx E cc own nL R) {x y : Int32} (d : decode cc pc = .ok (.iand, 1)) (k : AW E b cells slots w (pc + 1) lv (.int (x &&& y) :: st)) : AW E b cells slots w pc lv (.int y :: .int x :: st) :=
  fun H locs ls h1 h2 h3 h4 => lv_iand C.1 C.2.1 d (k H locs ls h1 h2 h3 h4)
theorem aw_ior (C : Cx E cc own nL R) {x y : Int32} (d : decode cc pc = .ok (.ior, 1)) (k : AW E b cells slots w (pc + 1) lv (.int (x ||| y) :: st)) : AW E b cells slots w pc lv (.int y :: .int x :: st) :=
  fun H locs ls h1 h2 h3 h4 => lv_ior C.1 C.2.1 d (k H locs ls h1 h2 h3 h4)
theorem aw_ixor (C : Cx E cc own nL R) {x y : Int32} (d : decode cc pc = .ok (.ixor, 1)) (k : AW E b cells slots w (pc + 1) lv (.int (x ^^^ y) :: st)) : AW E b cells slots w pc lv (.int y :: .int x :: st) :=
  fun H locs ls h1 h2 h3 h4 => lv_ixor C.1 C.2.1 d (k H locs ls h1 h2 h3 h4)
theorem aw_ishl (C : Cx E cc own nL R) {x y : Int32} (d : decode cc pc = .ok (.ishl, 1)) (k : AW E b cells slots w (pc + 1) lv (.int (x <<< (y &&& 31)) :: st)) : AW E b cells slots w pc lv (.int y :: .int x :: st) :=
  fun H locs ls h1 h2 h3 h4 => lv_ishl C.1 C.2.1 d (k H locs ls h1 h2 h3 h4)
theorem aw_ishr (C : Cx E cc own nL R) {x y : Int32} (d : decode cc pc = .ok (.ishr, 1)) (k : AW E b cells slots w (pc + 1) lv (.int (x >>> (y &&& 31)) :: st)) : AW E b cells slots w pc lv (.int y :: .int x :: st) :=
  fun H locs ls h1 h2 h3 h4 => lv_ishr C.1 C.2.1 d (k H locs ls h1 h2 h3 h4)
theorem aw_idiv (C : Cx E cc own nL R) {x y : Int32} (d : decode cc pc = .ok (.idiv, 1)) (hne : ¬ y = 0) (k : AW E b cells slots w (pc + 1) lv (.int (x / y) :: st)) : AW E b cells slots w pc lv (.int y :: .int x :: st) :=
  fun H locs ls h1 h2 h3 h4 => lv_idiv C.1 C.2.1 d hne (k H locs ls h1 h2 h3 h4)
theorem aw_irem (C : Cx E cc own nL R) {x y : Int32} (d : decode cc pc = .ok (.irem, 1)) (hne : ¬ y = 0) (k : AW E b cells slots w (pc + 1) lv (.int (x - x / y * y) :: st)) : AW E b cells slots w pc lv (.int y :: .int x :: st) :=
  fun H locs ls h1 h2 h3 h4 => lv_irem C.1 C.2.1 d hne (k H locs ls h1 h2 h3 h4)
theorem aw_ladd (C : Cx E cc own nL R) {x y : Int64} (d : decode cc pc = .ok (.ladd, 1)) (k : AW E b cells slots w (pc + 1) lv (.long (x + y) :: st)) : AW E b cells slots w pc lv (.long y :: .long x :: st) :=
  fun H locs ls h1 h2 h3 h4 => lv_ladd C.1 C.2.1 d (k H locs ls h1 h2 h3 h4)
theorem aw_lsub (C : Cx E cc own nL R) {x y : Int64} (d : decode cc pc = .ok (.lsub, 1)) (k : AW E b cells slots w (pc + 1) lv (.long (x - y) :: st)) : AW E b cells slots w pc lv (.long y :: .long x :: st) :=
  fun H locs ls h1 h2 h3 h4 => lv_lsub C.1 C.2.1 d (k H locs ls h1 h2 h3 h4)
theorem aw_lmul (C : Cx E cc own nL R) {x y : Int64} (d : decode cc pc = .ok (.lmul, 1)) (k : AW E b cells slots w (pc + 1) lv (.long (x * y) :: st)) : AW E b cells slots w pc lv (.long y :: .long x :: st) :=
  fun H locs ls h1 h2 h3 h4 => lv_lmul C.1 C.2.1 d (k H locs ls h1 h2 h3 h4)
theorem aw_land (C : Cx E cc own nL R) {x y : Int64} (d : decode cc pc = .ok (.land, 1)) (k : AW E b cells slots w (pc + 1) lv (.long (x &&& y) :: st)) : AW E b cells slots w pc lv (.long y :: .long x :: st) :=
  fun H locs ls h1 h2 h3 h4 => lv_land C.1 C.2.1 d (k H locs ls h1 h2 h3 h4)
theorem aw_lor (C : Cx E cc own nL R) {x y : Int64} (d : decode cc pc = .ok (.lor, 1)) (k : AW E b cells slots w (pc + 1) lv (.long (x ||| y) :: st)) : AW E b cells slots w pc lv (.long y :: .long x :: st) :=
  fun H locs ls h1 h2 h3 h4 => lv_lor C.1 C.2.1 d (k H locs ls h1 h2 h3 h4)
theorem aw_lxor (C : Cx E cc own nL R) {x y : Int64} (d : decode cc pc = .ok (.lxor, 1)) (k : AW E b cells slots w (pc + 1) lv (.long (x ^^^ y) :: st)) : AW E b cells slots w pc lv (.long y :: .long x :: st) :=
  fun H locs ls h1 h2 h3 h4 => lv_lxor C.1 C.2.1 d (k H locs ls h1 h2 h3 h4)
theorem aw_lushr (C : Cx E cc own nL R) {x : Int64} {y : Int32} (d : decode cc pc = .ok (.lushr, 1)) (k : AW E b cells slots w (pc + 1) lv (.long (x.toUInt64 >>> (y.toInt64.toUInt64 &&& Int64.toUInt64 63)).toInt64 :: st)) : AW E b cells slots w pc lv (.int y :: .long x :: st) :=
  fun H locs ls h1 h2 h3 h4 => lv_lushr C.1 C.2.1 d rfl (k H locs ls h1 h2 h3 h4)
theorem aw_lshl (C : Cx E cc own nL R) {x : Int64} {y : Int32} (d : decode cc pc = .ok (.lshl, 1)) (k : AW E b cells slots w (pc + 1) lv (.long (x <<< (y.toInt64 &&& 63)) :: st)) : AW E b cells slots w pc lv (.int y :: .long x :: st) :=
  fun H locs ls h1 h2 h3 h4 => lv_lshl C.1 C.2.1 d rfl (k H locs ls h1 h2 h3 h4)
theorem aw_lshr (C : Cx E cc own nL R) {x : Int64} {y : Int32} (d : decode cc pc = .ok (.lshr, 1)) (k : AW E b cells slots w (pc + 1) lv (.long (x >>> (y.toInt64 &&& 63)) :: st)) : AW E b cells slots w pc lv (.int y :: .long x :: st) :=
  fun H locs ls h1 h2 h3 h4 => lv_lshr C.1 C.2.1 d rfl (k H locs ls h1 h2 h3 h4)
theorem aw_i2l (C : Cx E cc own nL R) {x : Int32} (d : decode cc pc = .ok (.i2l, 1)) (k : AW E b cells slots w (pc + 1) lv (.long x.toInt64 :: st)) : AW E b cells slots w pc lv (.int x :: st) :=
  fun H locs ls h1 h2 h3 h4 => lv_i2l C.1 C.2.1 d rfl (k H locs ls h1 h2 h3 h4)
theorem aw_l2i (C : Cx E cc own nL R) {x : Int64} (d : decode cc pc = .ok (.l2i, 1)) (k : AW E b cells slots w (pc + 1) lv (.int x.toInt32 :: st)) : AW E b cells slots w pc lv (.long x :: st) :=
  fun H locs ls h1 h2 h3 h4 => lv_l2i C.1 C.2.1 d rfl (k H locs ls h1 h2 h3 h4)
theorem aw_lcmp (C : Cx E cc own nL R) {x y : Int64} (d : decode cc pc = .ok (.lcmp, 1)) (k : AW E b cells slots w (pc + 1) lv (.int (lg_cmp x y) :: st)) : AW E b cells slots w pc lv (.long y :: .long x :: st) :=
  fun H locs ls h1 h2 h3 h4 => W.lcmp C.1 C.2.1 d (k H locs ls h1 h2 h3 h4)
theorem aw_dup (C : Cx E cc own nL R) {v : Value} (d : decode cc pc = .ok (.dup, 1)) (hv : v.category = 1) (k : AW E b cells slots w (pc + 1) lv (v :: v :: st)) : AW E b cells slots w pc lv (v :: st) :=
  fun H locs ls h1 h2 h3 h4 => lv_dup C.1 C.2.1 d hv (k H locs ls h1 h2 h3 h4)
theorem aw_pop (C : Cx E cc own nL R) {v : Value} (d : decode cc pc = .ok (.pop, 1)) (hv : v.category = 1) (k : AW E b cells slots w (pc + 1) lv st) : AW E b cells slots w pc lv (v :: st) :=
  fun H locs ls h1 h2 h3 h4 => lv_pop C.1 C.2.1 d hv (k H locs ls h1 h2 h3 h4)
theorem aw_dup_x1 (C : Cx E cc own nL R) {v u : Value} (d : decode cc pc = .ok (.dup_x1, 1)) (hv : v.category = 1) (hu : u.category = 1) (k : AW E b cells slots w (pc + 1) lv (v :: u :: v :: st)) : AW E b cells slots w pc lv (v :: u :: st) :=
  fun H locs ls h1 h2 h3 h4 => lv_dup_x1 C.1 C.2.1 d hv hu (k H locs ls h1 h2 h3 h4)
theorem aw_dup2 (C : Cx E cc own nL R) {v u : Value} (d : decode cc pc = .ok (.dup2, 1)) (hv : v.category = 1) (hu : u.category = 1) (k : AW E b cells slots w (pc + 1) lv (v :: u :: v :: u :: st)) : AW E b cells slots w pc lv (v :: u :: st) :=
  fun H locs ls h1 h2 h3 h4 => lv_dup2_11 C.1 C.2.1 d hv hu (k H locs ls h1 h2 h3 h4)
theorem aw_if_eq (C : Cx E cc own nL R) {x : Int32} {off : Int} {tgt : Nat} (d : decode cc pc = .ok (.ifCond .eq off, 3)) (ht : (pc : Int) + off = (tgt : Int)) (kt : x = 0 → AW E b cells slots w tgt lv st) (kf : ¬ x = 0 → AW E b cells slots w (pc + 3) lv st) : AW E b cells slots w pc lv (.int x :: st) :=
  fun H locs ls h1 h2 h3 h4 => lv_if_eq C.1 C.2.1 d ht (fun z => kt z H locs ls h1 h2 h3 h4) (fun z => kf z H locs ls h1 h2 h3 h4)
theorem aw_if_ne (C : Cx E cc own nL R) {x : Int32} {off : Int} {tgt : Nat} (d : decode cc pc = .ok (.ifCond .ne off, 3)) (ht : (pc : Int) + off = (tgt : Int)) (kt : ¬ x = 0 → AW E b cells slots w tgt lv st) (kf : x = 0 → AW E b cells slots w (pc + 3) lv st) : AW E b cells slots w pc lv (.int x :: st) :=
  fun H locs ls h1 h2 h3 h4 => lv_if_ne C.1 C.2.1 d ht (fun z => kt z H locs ls h1 h2 h3 h4) (fun z => kf z H locs ls h1 h2 h3 h4)
theorem aw_if_lt (C : Cx E cc own nL R) {x : Int32} {off : Int} {tgt : Nat} (d : decode cc pc = .ok (.ifCond .lt off, 3)) (ht : (pc : Int) + off = (tgt : Int)) (kt : x < 0 → AW E b cells slots w tgt lv st) (kf : ¬ x < 0 → AW E b cells slots w (pc + 3) lv st) : AW E b cells slots w pc lv (.int x :: st) :=
  fun H locs ls h1 h2 h3 h4 => lv_if_lt C.1 C.2.1 d ht (fun z => kt z H locs ls h1 h2 h3 h4) (fun z => kf z H locs ls h1 h2 h3 h4)
theorem aw_if_ge (C : Cx E cc own nL R) {x : Int32} {off : Int} {tgt : Nat} (d : decode cc pc = .ok (.ifCond .ge off, 3)) (ht : (pc : Int) + off = (tgt : Int)) (kt : 0 ≤ x → AW E b cells slots w tgt lv st) (kf : ¬ 0 ≤ x → AW E b cells slots w (pc + 3) lv st) : AW E b cells slots w pc lv (.int x :: st) :=
  fun H locs ls h1 h2 h3 h4 => lv_if_ge C.1 C.2.1 d ht (fun z => kt z H locs ls h1 h2 h3 h4) (fun z => kf z H locs ls h1 h2 h3 h4)
theorem aw_if_gt (C : Cx E cc own nL R) {x : Int32} {off : Int} {tgt : Nat} (d : decode cc pc = .ok (.ifCond .gt off, 3)) (ht : (pc : Int) + off = (tgt : Int)) (kt : 0 < x → AW E b cells slots w tgt lv st) (kf : ¬ 0 < x → AW E b cells slots w (pc + 3) lv st) : AW E b cells slots w pc lv (.int x :: st) :=
  fun H locs ls h1 h2 h3 h4 => lv_if_gt C.1 C.2.1 d ht (fun z => kt z H locs ls h1 h2 h3 h4) (fun z => kf z H locs ls h1 h2 h3 h4)
theorem aw_if_le (C : Cx E cc own nL R) {x : Int32} {off : Int} {tgt : Nat} (d : decode cc pc = .ok (.ifCond .le off, 3)) (ht : (pc : Int) + off = (tgt : Int)) (kt : x ≤ 0 → AW E b cells slots w tgt lv st) (kf : ¬ x ≤ 0 → AW E b cells slots w (pc + 3) lv st) : AW E b cells slots w pc lv (.int x :: st) :=
  fun H locs ls h1 h2 h3 h4 => lv_if_le C.1 C.2.1 d ht (fun z => kt z H locs ls h1 h2 h3 h4) (fun z => kf z H locs ls h1 h2 h3 h4)
theorem aw_icmp_eq (C : Cx E cc own nL R) {x y : Int32} {off : Int} {tgt : Nat} (d : decode cc pc = .ok (.if_icmp .eq off, 3)) (ht : (pc : Int) + off = (tgt : Int)) (kt : x = y → AW E b cells slots w tgt lv st) (kf : ¬ x = y → AW E b cells slots w (pc + 3) lv st) : AW E b cells slots w pc lv (.int y :: .int x :: st) :=
  fun H locs ls h1 h2 h3 h4 => lv_icmp_eq C.1 C.2.1 d ht (fun z => kt z H locs ls h1 h2 h3 h4) (fun z => kf z H locs ls h1 h2 h3 h4)
theorem aw_icmp_ne (C : Cx E cc own nL R) {x y : Int32} {off : Int} {tgt : Nat} (d : decode cc pc = .ok (.if_icmp .ne off, 3)) (ht : (pc : Int) + off = (tgt : Int)) (kt : ¬ x = y → AW E b cells slots w tgt lv st) (kf : x = y → AW E b cells slots w (pc + 3) lv st) : AW E b cells slots w pc lv (.int y :: .int x :: st) :=
  fun H locs ls h1 h2 h3 h4 => lv_icmp_ne C.1 C.2.1 d ht (fun z => kt z H locs ls h1 h2 h3 h4) (fun z => kf z H locs ls h1 h2 h3 h4)
theorem aw_icmp_lt (C : Cx E cc own nL R) {x y : Int32} {off : Int} {tgt : Nat} (d : decode cc pc = .ok (.if_icmp .lt off, 3)) (ht : (pc : Int) + off = (tgt : Int)) (kt : x < y → AW E b cells slots w tgt lv st) (kf : ¬ x < y → AW E b cells slots w (pc + 3) lv st) : AW E b cells slots w pc lv (.int y :: .int x :: st) :=
  fun H locs ls h1 h2 h3 h4 => lv_icmp_lt C.1 C.2.1 d ht (fun z => kt z H locs ls h1 h2 h3 h4) (fun z => kf z H locs ls h1 h2 h3 h4)
theorem aw_icmp_ge (C : Cx E cc own nL R) {x y : Int32} {off : Int} {tgt : Nat} (d : decode cc pc = .ok (.if_icmp .ge off, 3)) (ht : (pc : Int) + off = (tgt : Int)) (kt : y ≤ x → AW E b cells slots w tgt lv st) (kf : ¬ y ≤ x → AW E b cells slots w (pc + 3) lv st) : AW E b cells slots w pc lv (.int y :: .int x :: st) :=
  fun H locs ls h1 h2 h3 h4 => lv_icmp_ge C.1 C.2.1 d ht (fun z => kt z H locs ls h1 h2 h3 h4) (fun z => kf z H locs ls h1 h2 h3 h4)
theorem aw_icmp_gt (C : Cx E cc own nL R) {x y : Int32} {off : Int} {tgt : Nat} (d : decode cc pc = .ok (.if_icmp .gt off, 3)) (ht : (pc : Int) + off = (tgt : Int)) (kt : y < x → AW E b cells slots w tgt lv st) (kf : ¬ y < x → AW E b cells slots w (pc + 3) lv st) : AW E b cells slots w pc lv (.int y :: .int x :: st) :=
  fun H locs ls h1 h2 h3 h4 => lv_icmp_gt C.1 C.2.1 d ht (fun z => kt z H locs ls h1 h2 h3 h4) (fun z => kf z H locs ls h1 h2 h3 h4)
theorem aw_icmp_le (C : Cx E cc own nL R) {x y : Int32} {off : Int} {tgt : Nat} (d : decode cc pc = .ok (.if_icmp .le off, 3)) (ht : (pc : Int) + off = (tgt : Int)) (kt : x ≤ y → AW E b cells slots w tgt lv st) (kf : ¬ x ≤ y → AW E b cells slots w (pc + 3) lv st) : AW E b cells slots w pc lv (.int y :: .int x :: st) :=
  fun H locs ls h1 h2 h3 h4 => lv_icmp_le C.1 C.2.1 d ht (fun z => kt z H locs ls h1 h2 h3 h4) (fun z => kf z H locs ls h1 h2 h3 h4)
theorem aw_goto (C : Cx E cc own nL R) {off : Int} {tgt : Nat} (d : decode cc pc = .ok (.goto off, 3)) (ht : (pc : Int) + off = (tgt : Int)) (k : AW E b cells slots w tgt lv st) : AW E b cells slots w pc lv st :=
  fun H locs ls h1 h2 h3 h4 => lv_goto C.1 C.2.1 d ht (k H locs ls h1 h2 h3 h4)
theorem aw_ifnull (C : Cx E cc own nL R) {x : Nat} {off : Int} (d : decode cc pc = .ok (.ifnull off, 3)) (k : AW E b cells slots w (pc + 3) lv st) : AW E b cells slots w pc lv (.ref x :: st) :=
  fun H locs ls h1 h2 h3 h4 => lv_ifnull C.1 C.2.1 d (k H locs ls h1 h2 h3 h4)
theorem aw_ifnullN (C : Cx E cc own nL R) {off : Int} {tgt : Nat} (d : decode cc pc = .ok (.ifnull off, 3)) (ht : (pc : Int) + off = (tgt : Int)) (k : AW E b cells slots w tgt lv st) : AW E b cells slots w pc lv (.null :: st) :=
  fun H locs ls h1 h2 h3 h4 => lv_ifnullN C.1 C.2.1 d ht (k H locs ls h1 h2 h3 h4)
theorem aw_ifnonnull (C : Cx E cc own nL R) {x : Nat} {off : Int} {tgt : Nat} (d : decode cc pc = .ok (.ifnonnull off, 3)) (ht : (pc : Int) + off = (tgt : Int)) (k : AW E b cells slots w tgt lv st) : AW E b cells slots w pc lv (.ref x :: st) :=
  fun H locs ls h1 h2 h3 h4 => lv_ifnonnull C.1 C.2.1 d ht (k H locs ls h1 h2 h3 h4)
theorem aw_ifnonnullN (C : Cx E cc own nL R) {off : Int} (d : decode cc pc = .ok (.ifnonnull off, 3)) (k : AW E b cells slots w (pc + 3) lv st) : AW E b cells slots w pc lv (.null :: st) :=
  fun H locs ls h1 h2 h3 h4 => lv_ifnonnullN C.1 C.2.1 d (k H locs ls h1 h2 h3 h4)
theorem aw_acmp_ne (C : Cx E cc own nL R) {rx ry : Option Nat} {off : Int} {tgt : Nat} (d : decode cc pc = .ok (.if_acmp .ne off, 3)) (ht : (pc : Int) + off = (tgt : Int)) (kt : ¬ rx = ry → AW E b cells slots w tgt lv st) (kf : rx = ry → AW E b cells slots w (pc + 3) lv st) : AW E b cells slots w pc lv (va_rf ry :: va_rf rx :: st) :=
  fun H locs ls h1 h2 h3 h4 => lv_acmp_ne C.1 C.2.1 d ht (fun z => kt z H locs ls h1 h2 h3 h4) (fun z => kf z H locs ls h1 h2 h3 h4)
theorem aw_acmp_eq (C : Cx E cc own nL R) {rx ry : Option Nat} {off : Int} {tgt : Nat} (d : decode cc pc = .ok (.if_acmp .eq off, 3)) (ht : (pc : Int) + off = (tgt : Int)) (kt : rx = ry → AW E b cells slots w tgt lv st) (kf : ¬ rx = ry → AW E b cells slots w (pc + 3) lv st) : AW E b cells slots w pc lv (va_rf ry :: va_rf rx :: st) :=
  fun H locs ls h1 h2 h3 h4 => lv_acmp_eq C.1 C.2.1 d ht (fun z => kt z H locs ls h1 h2 h3 h4) (fun z => kf z H locs ls h1 h2 h3 h4)
theorem aw_ldc (C : Cx E cc own nL R) {index : Nat} {v : Int32} (d : decode cc pc = .ok (.ldc index, 2)) (hm : Cond.constant own index v ∈ lw_tbl) (k : AW E b cells slots w (pc + 2) lv (.int v :: st)) : AW E b cells slots w pc lv st :=
  fun H locs ls h1 h2 h3 h4 => lv_ldc C.1 C.2.1 C.2.2.2.1 (C.2.2.2.2.1.wm hm rfl) d (k H locs ls h1 h2 h3 h4)
theorem aw_ldc2 (C : Cx E cc own nL R) {index : Nat} {v : Int64} (d : decode cc pc = .ok (.ldc2_w index, 3)) (hm : Cond.constantLong own index v ∈ lw_tbl) (k : AW E b cells slots w (pc + 3) lv (.long v :: st)) : AW E b cells slots w pc lv st :=
  fun H locs ls h1 h2 h3 h4 => lv_ldc2 C.1 C.2.1 C.2.2.2.1 (C.2.2.2.2.1.wm hm rfl) d (k H locs ls h1 h2 h3 h4)
theorem aw_tableIn (C : Cx E cc own nL R) {dflt lo hi : Int} {offs : Array Int} {len : Nat} {x : Int32} {off : Int} {tgt : Nat} (d : decode cc pc = .ok (.tableswitch dflt lo hi offs, len)) (q1 : ¬ x.toInt < lo) (q2 : ¬ hi < x.toInt) (ho : offs[(x.toInt - lo).toNat]? = some off) (ht : (pc : Int) + off = (tgt : Int)) (k : AW E b cells slots w tgt lv st) : AW E b cells slots w pc lv (.int x :: st) :=
  fun H locs ls h1 h2 h3 h4 => lv_tableIn C.1 C.2.1 d q1 q2 ho ht (k H locs ls h1 h2 h3 h4)
theorem aw_tableOut (C : Cx E cc own nL R) {dflt lo hi : Int} {offs : Array Int} {len : Nat} {x : Int32} {tgt : Nat} (d : decode cc pc = .ok (.tableswitch dflt lo hi offs, len)) (q : x.toInt < lo ∨ hi < x.toInt) (ht : (pc : Int) + dflt = (tgt : Int)) (k : AW E b cells slots w tgt lv st) : AW E b cells slots w pc lv (.int x :: st) :=
  fun H locs ls h1 h2 h3 h4 => lv_tableOut C.1 C.2.1 d q ht (k H locs ls h1 h2 h3 h4)
end ROWS
