/-! worlds by kinds, contracts over them, and what every method's walk leans on -/
-- words that stay true under warmer tables
def mv2 : Cond → Bool
  | .arrayClass _ => true
  | .fieldLinkNest .. => true
  | .methodLinkNest .. => true
  | .declares _ => true
  | .castable .. => true
  | .arrayOver (.object _) => true
  | _ => false
def mvs (w : Cond) : Bool := (w.onTables && w.keeps) || mv2 w
theorem mvs_move {w : Cond} (h : mvs w = true) {s U : State} (hW : s.WarmedH U.vm) {A A' : Array Value} (hb : w.before A s = true) : w.before A' U = true := by
  unfold mvs at h
  rcases (Bool.or_eq_true _ _).mp h with h | h
  · exact word_at hW (Or.inl h) hb
  · cases w with
    | arrayClass ty => exact word_at hW (Or.inr ⟨ty, rfl⟩) hb
    | fieldLinkNest a i b n d h => exact va_Nw.use rfl (va_Nw.warmF hW (va_Nw.of rfl hb))
    | methodLinkNest a i x h => exact va_Nw.use rfl (va_Nw.warmM hW (va_Nw.of rfl hb))
    | declares x => exact va_Nw.use rfl (va_Nw.warmD hW (va_Nw.of rfl hb))
    | castable a b => exact va_Nw.use rfl (va_Nw.warmC hW (va_Nw.of rfl hb))
    | arrayOver ty =>
      cases ty with
      | object C => exact va_AO.use (va_AO.moved hW.alike (va_AO.of hb))
      | _ => simp [mv2] at h
    | _ => simp [mv2] at h
-- worlds: cells by kind and number
abbrev Wd : Type := Nat → Nat → Option (Nat × va_E)
abbrev GG : Type := va_G × (Nat → ClassId) × Heap × Nat × Nat
abbrev gD (G : GG) : va_G := G.1
abbrev gA (G : GG) : Nat → ClassId := G.2.1
abbrev gH (G : GG) : Heap := G.2.2.1
abbrev gZ (G : GG) : Nat := G.2.2.2.1
abbrev gM (G : GG) : Nat := G.2.2.2.2
abbrev Rs : Type := Option Value ⊕ Nat
/-- the heap holds the world w: nothing below the start's size has changed, each cell of w is there, at addresses apart -/
def hp (G : GG) (w : Wd) (H : Heap) : Prop :=
  (gH G).size ≤ H.size ∧ (∀ q : Nat, q < (gH G).size → H[q]? = (gH G)[q]?) ∧
  (∀ (k i : Nat) (q : Nat × va_E), w k i = some q → (gH G).size ≤ q.1 ∧ va_at (gD G) classes q H) ∧
  ∀ (k i k' i' : Nat) (q q' : Nat × va_E), w k i = some q → w k' i' = some q' → q.1 = q'.1 → k = k' ∧ i = i'
def upW (w : Wd) (k i : Nat) (q : Nat × va_E) : Wd := fun k' i' => if k' = k then (if i' = i then some q else w k' i') else w k' i'
theorem upW_self (w : Wd) (k i : Nat) (q : Nat × va_E) : upW w k i q k i = some q := by simp [upW]
theorem upW_ne (w : Wd) {k i k' i' : Nat} (q : Nat × va_E) (h : ¬ (k' = k ∧ i' = i)) : upW w k i q k' i' = w k' i' := by
  unfold upW
  by_cases a : k' = k
  · by_cases b : i' = i
    · exact absurd ⟨a, b⟩ h
    · simp [a, b]
  · simp [a]
theorem hp.lt {G : GG} {w : Wd} {H : Heap} (h : hp G w H) {k i : Nat} {q : Nat × va_E} (hq : w k i = some q) : q.1 < H.size := (h.2.2.1 k i q hq).2.lt
theorem hp.kept {G : GG} {w : Wd} {H H1 : Heap} (h : hp G w H) (hs : H.size ≤ H1.size) (hk : ∀ q : Nat, q < H.size → H1[q]? = H[q]?) : hp G w H1 := by
  refine ⟨Nat.le_trans h.1 hs, fun q hq => ?_, fun k i q hq => ?_, h.2.2.2⟩
  · rw [hk q (Nat.lt_of_lt_of_le hq h.1)]
    exact h.2.1 q hq
  · exact ⟨(h.2.2.1 k i q hq).1, (h.2.2.1 k i q hq).2.kept (hk _ (h.lt hq))⟩
theorem hp.put {G : GG} {w : Wd} {H H1 : Heap} (h : hp G w H) {k i a : Nat} {e e' : va_E} (hq : w k i = some (a, e)) (ha : va_at (gD G) classes (a, e') H1) (hs : H1.size = H.size) (hk : ∀ q : Nat, q ≠ a → H1[q]? = H[q]?) : hp G (upW w k i (a, e')) H1 := by
  have hge := (h.2.2.1 k i _ hq).1
  have old : ∀ {k' i' : Nat} {q : Nat × va_E}, ¬ (k' = k ∧ i' = i) → w k' i' = some q → q.1 ≠ a := by
    intro k' i' q hne h2 e
    exact hne (h.2.2.2 k' i' k i q _ h2 hq e)
  refine ⟨by rw [hs]; exact h.1, fun q hq2 => ?_, fun k' i' q h2 => ?_, fun k1 i1 k2 i2 q1 q2 h1 h2 he => ?_⟩
  · have hne : q ≠ a := by have : (gH G).size ≤ a := hge; omega
    rw [hk q hne]
    exact h.2.1 q hq2
  · by_cases c : k' = k ∧ i' = i
    · obtain ⟨rfl, rfl⟩ := c
      rw [upW_self] at h2
      cases h2
      exact ⟨hge, ha⟩
    · rw [upW_ne w _ c] at h2
      exact ⟨(h.2.2.1 k' i' q h2).1, (h.2.2.1 k' i' q h2).2.kept (hk _ (old c h2))⟩
  · by_cases c1 : k1 = k ∧ i1 = i
    · obtain ⟨rfl, rfl⟩ := c1
      rw [upW_self] at h1
      cases h1
      by_cases c2 : k2 = k1 ∧ i2 = i1
      · exact ⟨c2.1.symm, c2.2.symm⟩
      · rw [upW_ne w _ c2] at h2
        exact absurd he.symm (old c2 h2)
    · rw [upW_ne w _ c1] at h1
      by_cases c2 : k2 = k ∧ i2 = i
      · obtain ⟨rfl, rfl⟩ := c2
        rw [upW_self] at h2
        cases h2
        exact absurd he (old c1 h1)
      · rw [upW_ne w _ c2] at h2
        exact h.2.2.2 k1 i1 k2 i2 q1 q2 h1 h2 he
theorem hp.sub {G : GG} {w w' : Wd} {H : Heap} (h : hp G w H) (hw : ∀ (k i : Nat) (q : Nat × va_E), w' k i = some q → w k i = some q) : hp G w' H :=
  ⟨h.1, h.2.1, fun k i q hq => h.2.2.1 k i q (hw k i q hq), fun k i k' i' q q' h1 h2 e => h.2.2.2 k i k' i' q q' (hw _ _ _ h1) (hw _ _ _ h2) e⟩
theorem hp.new {G : GG} {w : Wd} {H H1 : Heap} (h : hp G w H) {k i : Nat} {e : va_E} (ha : va_at (gD G) classes (H.size, e) H1) (hs : H.size ≤ H1.size) (hk : ∀ q : Nat, q < H.size → H1[q]? = H[q]?) : hp G (upW w k i (H.size, e)) H1 := by
  have h0 := h.kept hs hk
  refine ⟨h0.1, h0.2.1, fun k' i' q h2 => ?_, fun k1 i1 k2 i2 q1 q2 h1 h2 he => ?_⟩
  · by_cases c : k' = k ∧ i' = i
    · obtain ⟨rfl, rfl⟩ := c
      rw [upW_self] at h2
      cases h2
      exact ⟨h.1, ha⟩
    · rw [upW_ne w _ c] at h2
      exact h0.2.2.1 k' i' q h2
  · by_cases c1 : k1 = k ∧ i1 = i
    · obtain ⟨rfl, rfl⟩ := c1
      rw [upW_self] at h1
      cases h1
      by_cases c2 : k2 = k1 ∧ i2 = i1
      · exact ⟨c2.1.symm, c2.2.symm⟩
      · rw [upW_ne w _ c2] at h2
        have := h.lt h2
        have he : H.size = q2.1 := he
        omega
    · rw [upW_ne w _ c1] at h1
      by_cases c2 : k2 = k ∧ i2 = i
      · obtain ⟨rfl, rfl⟩ := c2
        rw [upW_self] at h2
        cases h2
        have := h.lt h1
        have he : q1.1 = H.size := he
        omega
      · rw [upW_ne w _ c2] at h2
        exact h.2.2.2 k1 i1 k2 i2 q1 q2 h1 h2 he
-- what the tables say, at any state behind the start
def tysOf (cA : Nat → ClassId) : List (ClassId × FieldType) := [(cA 0, .int), (cA 1, .long), (cA 2, .boolean), (cA 3, .object "BubbleBox$Loop"), (cA 4, .object "BubbleBox$StoredFile"), (cA 5, .object "BubbleBox$Image"), (cA 6, .object "java/lang/Object")]
def fw_hs : List Cond := [.laysStatic "java/lang/Throwable" "UNASSIGNED_STACK" "[Ljava/lang/StackTraceElement;", .laysStatic "java/lang/Throwable" "SUPPRESSED_SENTINEL" "Ljava/util/List;", .isRef (.static "java/lang/Throwable" "UNASSIGNED_STACK" "[Ljava/lang/StackTraceElement;"), .isRef (.static "java/lang/Throwable" "SUPPRESSED_SENTINEL" "Ljava/util/List;")]
def exN : Nat → String := fun n => match n with
  | 0 => "java/lang/IllegalStateException"
  | 1 => "java/lang/IllegalArgumentException"
  | 2 => "java/lang/UnsupportedOperationException"
  | _ => "java/lang/IndexOutOfBoundsException"
def fw_nc : List (String × String) := [("BubbleBox$Loop", "BubbleBox$StuckLoop"), (exN 0, exN 1), (exN 0, exN 2), (exN 0, exN 3), (exN 1, exN 0), (exN 1, exN 2), (exN 1, exN 3), (exN 2, exN 0), (exN 2, exN 1), (exN 2, exN 3), (exN 3, exN 0), (exN 3, exN 1), (exN 3, exN 2)]
abbrev atH (U : State) (H : Heap) : State := { U with heap := H }
def Kg (G : GG) (U : State) : Prop :=
  (∀ w ∈ lw_tbl, mvs w = true → va_Nw w U) ∧ va_K (gD G) classes (tysOf (gA G)) U ∧ (∀ c ∈ fw_hs, c.before #[] (atH U (gH G)) = true) ∧
  va_Z "java/util/ArrayList" "DEFAULTCAPACITY_EMPTY_ELEMENTDATA" "[Ljava/lang/Object;" (.ref (gZ G)) (fun _ => False) U (gH G) ∧
  va_T (.object "java/lang/Object") (gZ G) 0 (fun _ => .null) (fun _ => False) U (gH G) ∧ va_Mi "[Ljava/lang/Object;" (gM G) U ∧ ∀ q ∈ fw_nc, va_Nc q.1 q.2 U
theorem fw_hs_steady : ∀ c ∈ fw_hs, c.steady = true := by decide +kernel
theorem fw_hs_vm {c : Cond} (hc : c ∈ fw_hs) {U V : State} {A A' : Array Value} (hvm : U.vm = V.vm) (hh : U.heap = V.heap) (h : c.before A U = true) : c.before A' V = true := by
  obtain ⟨⟩ := U
  obtain ⟨⟩ := V
  cases hvm
  cases hh
  simp only [fw_hs, List.mem_cons, List.not_mem_nil, or_false] at hc
  rcases hc with rfl | rfl | rfl | rfl <;> exact h
theorem fw_hs_move {c : Cond} (hc : c ∈ fw_hs) {s U : State} {H : Heap} (hW : s.WarmedH U.vm) (h : c.before #[] (atH s H) = true) : c.before #[] (atH U H) = true := by
  have h1 : c.before #[] ((atH s H).setVm U.vm) = true := by
    have := Cond.value_setVm (s := atH s H) (args := #[]) (o := none) hW.alike c [] (fw_hs_steady c hc)
    unfold Cond.before Cond.holds at h ⊢
    rw [this]; exact h
  exact fw_hs_vm (U := (atH s H).setVm U.vm) (V := atH U H) hc rfl rfl h1
theorem Kg.moved {G : GG} {s U : State} (h : Kg G s) (hW : s.WarmedH U.vm) : Kg G U := by
  obtain ⟨h1, h2, h3, h4, h5, h6, h7⟩ := h
  exact ⟨fun w hw hm => mvs_move hm hW (h1 w hw hm), va_K.moved hW.alike h2, fun c hc => fw_hs_move hc hW (h3 c hc), va_Z.moved hW.alike h4, va_T.moved hW.alike h5, va_Mi.moved hW.alike h6, fun q hq => va_Nc.moved hW.alike (h7 q hq)⟩
/-- a word of the tables at a method's start -/
theorem Kg.wd {G : GG} {s : State} (h : Kg G s) {w : Cond} {A : Array Value} (n : Nat) (hn : lw_tbl[n]? = some w) (hm : mvs w = true) : w.before A s = true :=
  mvs_move hm (State.WarmedH.refl s) (h.1 w (List.mem_of_getElem? hn) hm)
theorem Kg.wm {G : GG} {s : State} (h : Kg G s) {w : Cond} {A : Array Value} (hn : w ∈ lw_tbl) (hm : mvs w = true) : w.before A s = true :=
  mvs_move hm (State.WarmedH.refl s) (h.1 w hn hm)
