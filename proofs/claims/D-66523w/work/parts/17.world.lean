/-! the world: component c, model m, the law's own array o; printed by tools/gen_world.py -/
abbrev CC : Type := (Nat → Nat → Int32) × (Nat → Nat → Int64) × (Nat → Nat → Nat → Int32) × (Nat → Nat → Nat → Int64) × (Nat → Nat → Nat → Option Nat) × (Nat → Nat → Nat)
def cI (c : CC) : Nat → Nat → Int32 := c.1
def cL (c : CC) : Nat → Nat → Int64 := c.2.1
def cA (c : CC) : Nat → Nat → Nat → Int32 := c.2.2.1
def cJ (c : CC) : Nat → Nat → Nat → Int64 := c.2.2.2.1
def cR (c : CC) : Nat → Nat → Nat → Option Nat := c.2.2.2.2.1
def cN (c : CC) : Nat → Nat → Nat := c.2.2.2.2.2
def up2 {α : Type} (f : Nat → Nat → α) (k i : Nat) (v : α) : Nat → Nat → α := fun k' i' => if k' = k then (if i' = i then v else f k' i') else f k' i'
def sI (c : CC) (k i : Nat) (v : Int32) : CC := (up2 c.1 k i v, c.2)
def sL (c : CC) (k i : Nat) (v : Int64) : CC := (c.1, up2 c.2.1 k i v, c.2.2)
def sA (c : CC) (k i : Nat) (v : Nat → Int32) : CC := (c.1, c.2.1, up2 c.2.2.1 k i v, c.2.2.2)
def sJ (c : CC) (k i : Nat) (v : Nat → Int64) : CC := (c.1, c.2.1, c.2.2.1, up2 c.2.2.2.1 k i v, c.2.2.2.2)
def sR (c : CC) (k i : Nat) (v : Nat → Option Nat) : CC := (c.1, c.2.1, c.2.2.1, c.2.2.2.1, up2 c.2.2.2.2.1 k i v, c.2.2.2.2.2)
def sN (c : CC) (k i : Nat) (v : Nat) : CC := (c.1, c.2.1, c.2.2.1, c.2.2.2.1, c.2.2.2.2.1, up2 c.2.2.2.2.2 k i v)
abbrev MM : Type := (Nat → Int32) × (Nat → Int64) × (Nat → Nat → Int32) × (Nat → Nat → Int64)
def mI (m : MM) : Nat → Int32 := m.1
def mL (m : MM) : Nat → Int64 := m.2.1
def mA (m : MM) : Nat → Nat → Int32 := m.2.2.1
def mJ (m : MM) : Nat → Nat → Int64 := m.2.2.2
def up1 {α : Type} (f : Nat → α) (k : Nat) (v : α) : Nat → α := fun k' => if k' = k then v else f k'
def smI (m : MM) (k : Nat) (v : Int32) : MM := (up1 m.1 k v, m.2)
def smL (m : MM) (k : Nat) (v : Int64) : MM := (m.1, up1 m.2.1 k v, m.2.2)
def smA (m : MM) (k : Nat) (v : Nat → Int32) : MM := (m.1, m.2.1, up1 m.2.2.1 k v, m.2.2.2)
def smJ (m : MM) (k : Nat) (v : Nat → Int64) : MM := (m.1, m.2.1, m.2.2.1, up1 m.2.2.2 k v)
abbrev OO : Type := Int64
abbrev AD : Type := Nat → Nat → Nat
/-- where a list's elements lie: none of its own while its capacity is 0 -/
def elA (G : GG) (a : AD) (c : CC) (i : Nat) : Nat := if cN c 14 i = 0 then gZ G else a 14 i
def celC (G : GG) (a : AD) (c : CC) (o : OO) (k i : Nat) : Option (Nat × va_E) := match k with
  | 0 => some (a 0 i, .inr (0, [.ref (a 1 0), .ref (a 2 0), .ref (a 3 0), .ref (a 10 0), .ref (a 13 0), .ref (a 13 1), .int (cI c 0 i)]))
  | 1 => some (a 1 i, .inr (1, [.ref (a 4 0), .ref (a 5 0), .int (cI c 1 i), .int (cI c 2 i), .long (cL c 0 i)]))
  | 2 => some (a 2 i, .inr (2, [.ref (a 1 0), .int (cI c 3 i), .int (cI c 4 i)]))
  | 3 => some (a 3 i, .inr (3, [.ref (a 6 0), .ref (a 7 0), .ref (a 8 0), .ref (a 9 0), .int (cI c 5 i), .int (cI c 6 i)]))
  | 4 => some (a 4 i, .inl (gA G 3, 69, .inr (.inr (.inr (.inr (fun j => (cR c 4 i j).map (a 15)))))))
  | 5 => some (a 5 i, .inl (gA G 0, 64, .inl (cA c 5 i)))
  | 6 => some (a 6 i, .inl (gA G 4, 8, .inr (.inr (.inr (.inr (fun j => (cR c 6 i j).map (a 17)))))))
  | 7 => some (a 7 i, .inl (gA G 0, 101, .inl (cA c 7 i)))
  | 8 => some (a 8 i, .inl (gA G 2, 101, .inl (cA c 8 i)))
  | 9 => some (a 9 i, .inl (gA G 2, 101, .inl (cA c 9 i)))
  | 10 => some (a 10 i, .inl (gA G 5, 2, .inr (.inr (.inr (.inr (fun j => (cR c 10 i j).map (a 11)))))))
  | 11 => some (a 11 i, .inr (4, [.ref (a 12 i)]))
  | 12 => some (a 12 i, .inl (gA G 0, 160, .inl (cA c 12 i)))
  | 13 => some (a 13 i, .inr (10, [.ref (elA G a c i), .int (cI c 8 i), .int (cI c 7 i)]))
  | 14 => if cN c 14 i = 0 then none else some (a 14 i, .inl (gA G 6, (cN c 14 i), .inr (.inr (.inr (.inr (fun j => (cR c 14 i j).map (a 19)))))))
  | 15 => some (a 15 i, if cN c 16 i = 0 then .inr (5, [.ref (a 16 i)]) else .inr (6, [.int (cI c 9 i), .ref (a 16 i)]))
  | 16 => some (a 16 i, .inl (gA G 1, 2, .inr (.inl (cJ c 16 i))))
  | 17 => some (a 17 i, .inr (7, [.int (cI c 10 i), .int (cI c 11 i), .int (cI c 12 i), .ref (a 18 i)]))
  | 18 => some (a 18 i, .inr (8, [.int (cI c 13 i), .long (cL c 1 i), .int (cI c 14 i)]))
  | 19 => some (a 19 i, .inr (9, [.int (cI c 15 i), .int (cI c 16 i), .long (cL c 2 i), .int (cI c 17 i), .long (cL c 3 i)]))
  | 20 => some (a 20 i, .inl (gA G 1, 1, .inr (.inl (fun _ => o))))
  | _ => none
def cntC (c : CC) (k : Nat) : Nat := match k with
  | 11 => 2
  | 12 => 2
  | 13 => 2
  | 14 => 2
  | 15 => cN c 15 0
  | 16 => cN c 15 0
  | 17 => cN c 17 0
  | 18 => cN c 17 0
  | 19 => cN c 19 0
  | _ => 1
def celM (G : GG) (a : AD) (m : MM) (j : Nat) : Option (Nat × va_E) := match j with
  | 0 => some (a 30 0, .inr (11, [.int (mI m 0), .ref (a 31 0), .int (mI m 1), .ref (a 32 0), .int (mI m 2), .long (mL m 0), .int (mI m 3), .int (mI m 4), .int (mI m 5), .ref (a 33 0), .ref (a 34 0), .ref (a 35 0), .ref (a 36 0), .ref (a 37 0), .ref (a 38 0), .int (mI m 6), .int (mI m 7), .ref (a 39 0), .ref (a 40 0), .ref (a 41 0), .int (mI m 8), .ref (a 42 0), .ref (a 43 0), .ref (a 44 0), .ref (a 45 0), .int (mI m 9), .ref (a 46 0)]))
  | 1 => some (a 31 0, .inl (gA G 2, 69, .inl (mA m 1)))
  | 2 => some (a 32 0, .inl (gA G 1, 101, .inr (.inl (mJ m 2))))
  | 3 => some (a 33 0, .inl (gA G 0, 8, .inl (mA m 3)))
  | 4 => some (a 34 0, .inl (gA G 0, 8, .inl (mA m 4)))
  | 5 => some (a 35 0, .inl (gA G 0, 512, .inl (mA m 5)))
  | 6 => some (a 36 0, .inl (gA G 0, 8, .inl (mA m 6)))
  | 7 => some (a 37 0, .inl (gA G 1, 8, .inr (.inl (mJ m 7))))
  | 8 => some (a 38 0, .inl (gA G 2, 8, .inl (mA m 8)))
  | 9 => some (a 39 0, .inl (gA G 2, 101, .inl (mA m 9)))
  | 10 => some (a 40 0, .inl (gA G 0, 160, .inl (mA m 10)))
  | 11 => some (a 41 0, .inl (gA G 0, 101, .inl (mA m 11)))
  | 12 => some (a 42 0, .inl (gA G 0, 16, .inl (mA m 12)))
  | 13 => some (a 43 0, .inl (gA G 2, 16, .inl (mA m 13)))
  | 14 => some (a 44 0, .inl (gA G 1, 16, .inr (.inl (mJ m 14))))
  | 15 => some (a 45 0, .inl (gA G 2, 16, .inl (mA m 15)))
  | 16 => some (a 46 0, .inl (gA G 1, 16, .inr (.inl (mJ m 16))))
  | _ => none
def wld (G : GG) (a : AD) (c : CC) (m : MM) (o : OO) : Wd := fun k i => if k < 30 then (if i < cntC c k then celC G a c o k i else none) else (if i = 0 then celM G a m (k - 30) else none)
theorem wld_up {w w' : Wd} {k i : Nat} {q : Nat × va_E} (h1 : w' k i = some q) (h2 : ∀ k' i', ¬ (k' = k ∧ i' = i) → w' k' i' = w k' i') : upW w k i q = w' := by
  funext k' i'
  by_cases h : k' = k ∧ i' = i
  · obtain ⟨rfl, rfl⟩ := h
    rw [upW_self, h1]
  · rw [upW_ne w q h, h2 k' i' h]
theorem wld_M {G : GG} {a : AD} {c : CC} {m m' : MM} {o : OO} {j : Nat} {q : Nat × va_E} (h1 : celM G a m' j = some q) (h2 : ∀ j', j' ≠ j → celM G a m' j' = celM G a m j') : upW (wld G a c m o) (30 + j) 0 q = wld G a c m' o := by
  refine wld_up ?_ ?_
  · unfold wld
    rw [if_neg (by omega), if_pos rfl, show 30 + j - 30 = j by omega]
    exact h1
  · intro k' i' hne
    unfold wld
    by_cases hk : k' < 30
    · rw [if_pos hk, if_pos hk]
    · rw [if_neg hk, if_neg hk]
      by_cases hi : i' = 0
      · rw [if_pos hi, if_pos hi]
        exact h2 _ (fun e => hne ⟨by omega, hi⟩)
      · rw [if_neg hi, if_neg hi]
theorem wld_C {G : GG} {a : AD} {c c' : CC} {m : MM} {o : OO} {k i : Nat} {q : Nat × va_E} (hk : k < 30) (hi : i < cntC c k) (hn : ∀ k, cntC c' k = cntC c k) (h1 : celC G a c' o k i = some q) (h2 : ∀ k' i', ¬ (k' = k ∧ i' = i) → celC G a c' o k' i' = celC G a c o k' i') : upW (wld G a c m o) k i q = wld G a c' m o := by
  refine wld_up ?_ ?_
  · unfold wld
    rw [if_pos hk, hn, if_pos hi]
    exact h1
  · intro k' i' hne
    unfold wld
    by_cases hk : k' < 30
    · rw [if_pos hk, if_pos hk, hn]
      by_cases hi : i' < cntC c k'
      · rw [if_pos hi, if_pos hi]
        exact h2 _ _ hne
      · rw [if_neg hi, if_neg hi]
    · rw [if_neg hk, if_neg hk]
theorem cC_at {G : GG} {a : AD} {c : CC} {m : MM} {o : OO} {k i : Nat} {q : Nat × va_E} (hk : k < 30) (hi : i < cntC c k) (h : celC G a c o k i = some q) : wld G a c m o k i = some q := by
  unfold wld
  rw [if_pos hk, if_pos hi]
  exact h
theorem cM_at {G : GG} {a : AD} {c : CC} {m : MM} {o : OO} {j : Nat} {q : Nat × va_E} (h : celM G a m j = some q) : wld G a c m o (30 + j) 0 = some q := by
  unfold wld
  rw [if_neg (by omega), if_pos rfl, show 30 + j - 30 = j by omega]
  exact h
-- a scalar of the component is written
theorem wI_0 {G : GG} {a : AD} {c : CC} {m : MM} {o : OO} {i : Nat} (v : Int32) (hi : i < cntC c 0) : upW (wld G a c m o) 0 i (a 0 i, .inr (0, [.ref (a 1 0), .ref (a 2 0), .ref (a 3 0), .ref (a 10 0), .ref (a 13 0), .ref (a 13 1), .int v])) = wld G a (sI c 0 i v) m o := by
  refine wld_C (by decide) hi (fun k => rfl) ?_ ?_
  · simp [celC, sI, cI, cL, up2, elA, cN] <;> rfl
  · intro k' i' hne
    unfold celC
    split <;> first | rfl | (have h9 : ¬ i' = i := fun e => hne ⟨rfl, e⟩; simp [sI, cI, cL, up2, elA, cN, h9] <;> rfl)
theorem wI_1 {G : GG} {a : AD} {c : CC} {m : MM} {o : OO} {i : Nat} (v : Int32) (hi : i < cntC c 1) : upW (wld G a c m o) 1 i (a 1 i, .inr (1, [.ref (a 4 0), .ref (a 5 0), .int v, .int (cI c 2 i), .long (cL c 0 i)])) = wld G a (sI c 1 i v) m o := by
  refine wld_C (by decide) hi (fun k => rfl) ?_ ?_
  · simp [celC, sI, cI, cL, up2, elA, cN] <;> rfl
  · intro k' i' hne
    unfold celC
    split <;> first | rfl | (have h9 : ¬ i' = i := fun e => hne ⟨rfl, e⟩; simp [sI, cI, cL, up2, elA, cN, h9] <;> rfl)
theorem wI_2 {G : GG} {a : AD} {c : CC} {m : MM} {o : OO} {i : Nat} (v : Int32) (hi : i < cntC c 1) : upW (wld G a c m o) 1 i (a 1 i, .inr (1, [.ref (a 4 0), .ref (a 5 0), .int (cI c 1 i), .int v, .long (cL c 0 i)])) = wld G a (sI c 2 i v) m o := by
  refine wld_C (by decide) hi (fun k => rfl) ?_ ?_
  · simp [celC, sI, cI, cL, up2, elA, cN] <;> rfl
  · intro k' i' hne
    unfold celC
    split <;> first | rfl | (have h9 : ¬ i' = i := fun e => hne ⟨rfl, e⟩; simp [sI, cI, cL, up2, elA, cN, h9] <;> rfl)
theorem wI_3 {G : GG} {a : AD} {c : CC} {m : MM} {o : OO} {i : Nat} (v : Int32) (hi : i < cntC c 2) : upW (wld G a c m o) 2 i (a 2 i, .inr (2, [.ref (a 1 0), .int v, .int (cI c 4 i)])) = wld G a (sI c 3 i v) m o := by
  refine wld_C (by decide) hi (fun k => rfl) ?_ ?_
  · simp [celC, sI, cI, cL, up2, elA, cN] <;> rfl
  · intro k' i' hne
    unfold celC
    split <;> first | rfl | (have h9 : ¬ i' = i := fun e => hne ⟨rfl, e⟩; simp [sI, cI, cL, up2, elA, cN, h9] <;> rfl)
theorem wI_4 {G : GG} {a : AD} {c : CC} {m : MM} {o : OO} {i : Nat} (v : Int32) (hi : i < cntC c 2) : upW (wld G a c m o) 2 i (a 2 i, .inr (2, [.ref (a 1 0), .int (cI c 3 i), .int v])) = wld G a (sI c 4 i v) m o := by
  refine wld_C (by decide) hi (fun k => rfl) ?_ ?_
  · simp [celC, sI, cI, cL, up2, elA, cN] <;> rfl
  · intro k' i' hne
    unfold celC
    split <;> first | rfl | (have h9 : ¬ i' = i := fun e => hne ⟨rfl, e⟩; simp [sI, cI, cL, up2, elA, cN, h9] <;> rfl)
theorem wI_5 {G : GG} {a : AD} {c : CC} {m : MM} {o : OO} {i : Nat} (v : Int32) (hi : i < cntC c 3) : upW (wld G a c m o) 3 i (a 3 i, .inr (3, [.ref (a 6 0), .ref (a 7 0), .ref (a 8 0), .ref (a 9 0), .int v, .int (cI c 6 i)])) = wld G a (sI c 5 i v) m o := by
  refine wld_C (by decide) hi (fun k => rfl) ?_ ?_
  · simp [celC, sI, cI, cL, up2, elA, cN] <;> rfl
  · intro k' i' hne
    unfold celC
    split <;> first | rfl | (have h9 : ¬ i' = i := fun e => hne ⟨rfl, e⟩; simp [sI, cI, cL, up2, elA, cN, h9] <;> rfl)
theorem wI_6 {G : GG} {a : AD} {c : CC} {m : MM} {o : OO} {i : Nat} (v : Int32) (hi : i < cntC c 3) : upW (wld G a c m o) 3 i (a 3 i, .inr (3, [.ref (a 6 0), .ref (a 7 0), .ref (a 8 0), .ref (a 9 0), .int (cI c 5 i), .int v])) = wld G a (sI c 6 i v) m o := by
  refine wld_C (by decide) hi (fun k => rfl) ?_ ?_
  · simp [celC, sI, cI, cL, up2, elA, cN] <;> rfl
  · intro k' i' hne
    unfold celC
    split <;> first | rfl | (have h9 : ¬ i' = i := fun e => hne ⟨rfl, e⟩; simp [sI, cI, cL, up2, elA, cN, h9] <;> rfl)
theorem wI_7 {G : GG} {a : AD} {c : CC} {m : MM} {o : OO} {i : Nat} (v : Int32) (hi : i < cntC c 13) : upW (wld G a c m o) 13 i (a 13 i, .inr (10, [.ref (elA G a c i), .int (cI c 8 i), .int v])) = wld G a (sI c 7 i v) m o := by
  refine wld_C (by decide) hi (fun k => rfl) ?_ ?_
  · simp [celC, sI, cI, cL, up2, elA, cN] <;> rfl
  · intro k' i' hne
    unfold celC
    split <;> first | rfl | (have h9 : ¬ i' = i := fun e => hne ⟨rfl, e⟩; simp [sI, cI, cL, up2, elA, cN, h9] <;> rfl)
theorem wI_8 {G : GG} {a : AD} {c : CC} {m : MM} {o : OO} {i : Nat} (v : Int32) (hi : i < cntC c 13) : upW (wld G a c m o) 13 i (a 13 i, .inr (10, [.ref (elA G a c i), .int v, .int (cI c 7 i)])) = wld G a (sI c 8 i v) m o := by
  refine wld_C (by decide) hi (fun k => rfl) ?_ ?_
  · simp [celC, sI, cI, cL, up2, elA, cN] <;> rfl
  · intro k' i' hne
    unfold celC
    split <;> first | rfl | (have h9 : ¬ i' = i := fun e => hne ⟨rfl, e⟩; simp [sI, cI, cL, up2, elA, cN, h9] <;> rfl)
theorem wI_10 {G : GG} {a : AD} {c : CC} {m : MM} {o : OO} {i : Nat} (v : Int32) (hi : i < cntC c 17) : upW (wld G a c m o) 17 i (a 17 i, .inr (7, [.int v, .int (cI c 11 i), .int (cI c 12 i), .ref (a 18 i)])) = wld G a (sI c 10 i v) m o := by
  refine wld_C (by decide) hi (fun k => rfl) ?_ ?_
  · simp [celC, sI, cI, cL, up2, elA, cN] <;> rfl
  · intro k' i' hne
    unfold celC
    split <;> first | rfl | (have h9 : ¬ i' = i := fun e => hne ⟨rfl, e⟩; simp [sI, cI, cL, up2, elA, cN, h9] <;> rfl)
theorem wI_11 {G : GG} {a : AD} {c : CC} {m : MM} {o : OO} {i : Nat} (v : Int32) (hi : i < cntC c 17) : upW (wld G a c m o) 17 i (a 17 i, .inr (7, [.int (cI c 10 i), .int v, .int (cI c 12 i), .ref (a 18 i)])) = wld G a (sI c 11 i v) m o := by
  refine wld_C (by decide) hi (fun k => rfl) ?_ ?_
  · simp [celC, sI, cI, cL, up2, elA, cN] <;> rfl
  · intro k' i' hne
    unfold celC
    split <;> first | rfl | (have h9 : ¬ i' = i := fun e => hne ⟨rfl, e⟩; simp [sI, cI, cL, up2, elA, cN, h9] <;> rfl)
theorem wI_12 {G : GG} {a : AD} {c : CC} {m : MM} {o : OO} {i : Nat} (v : Int32) (hi : i < cntC c 17) : upW (wld G a c m o) 17 i (a 17 i, .inr (7, [.int (cI c 10 i), .int (cI c 11 i), .int v, .ref (a 18 i)])) = wld G a (sI c 12 i v) m o := by
  refine wld_C (by decide) hi (fun k => rfl) ?_ ?_
  · simp [celC, sI, cI, cL, up2, elA, cN] <;> rfl
  · intro k' i' hne
    unfold celC
    split <;> first | rfl | (have h9 : ¬ i' = i := fun e => hne ⟨rfl, e⟩; simp [sI, cI, cL, up2, elA, cN, h9] <;> rfl)
theorem wI_13 {G : GG} {a : AD} {c : CC} {m : MM} {o : OO} {i : Nat} (v : Int32) (hi : i < cntC c 18) : upW (wld G a c m o) 18 i (a 18 i, .inr (8, [.int v, .long (cL c 1 i), .int (cI c 14 i)])) = wld G a (sI c 13 i v) m o := by
  refine wld_C (by decide) hi (fun k => rfl) ?_ ?_
  · simp [celC, sI, cI, cL, up2, elA, cN] <;> rfl
  · intro k' i' hne
    unfold celC
    split <;> first | rfl | (have h9 : ¬ i' = i := fun e => hne ⟨rfl, e⟩; simp [sI, cI, cL, up2, elA, cN, h9] <;> rfl)
theorem wI_14 {G : GG} {a : AD} {c : CC} {m : MM} {o : OO} {i : Nat} (v : Int32) (hi : i < cntC c 18) : upW (wld G a c m o) 18 i (a 18 i, .inr (8, [.int (cI c 13 i), .long (cL c 1 i), .int v])) = wld G a (sI c 14 i v) m o := by
  refine wld_C (by decide) hi (fun k => rfl) ?_ ?_
  · simp [celC, sI, cI, cL, up2, elA, cN] <;> rfl
  · intro k' i' hne
    unfold celC
    split <;> first | rfl | (have h9 : ¬ i' = i := fun e => hne ⟨rfl, e⟩; simp [sI, cI, cL, up2, elA, cN, h9] <;> rfl)
theorem wI_15 {G : GG} {a : AD} {c : CC} {m : MM} {o : OO} {i : Nat} (v : Int32) (hi : i < cntC c 19) : upW (wld G a c m o) 19 i (a 19 i, .inr (9, [.int v, .int (cI c 16 i), .long (cL c 2 i), .int (cI c 17 i), .long (cL c 3 i)])) = wld G a (sI c 15 i v) m o := by
  refine wld_C (by decide) hi (fun k => rfl) ?_ ?_
  · simp [celC, sI, cI, cL, up2, elA, cN] <;> rfl
  · intro k' i' hne
    unfold celC
    split <;> first | rfl | (have h9 : ¬ i' = i := fun e => hne ⟨rfl, e⟩; simp [sI, cI, cL, up2, elA, cN, h9] <;> rfl)
theorem wI_16 {G : GG} {a : AD} {c : CC} {m : MM} {o : OO} {i : Nat} (v : Int32) (hi : i < cntC c 19) : upW (wld G a c m o) 19 i (a 19 i, .inr (9, [.int (cI c 15 i), .int v, .long (cL c 2 i), .int (cI c 17 i), .long (cL c 3 i)])) = wld G a (sI c 16 i v) m o := by
  refine wld_C (by decide) hi (fun k => rfl) ?_ ?_
  · simp [celC, sI, cI, cL, up2, elA, cN] <;> rfl
  · intro k' i' hne
    unfold celC
    split <;> first | rfl | (have h9 : ¬ i' = i := fun e => hne ⟨rfl, e⟩; simp [sI, cI, cL, up2, elA, cN, h9] <;> rfl)
theorem wI_17 {G : GG} {a : AD} {c : CC} {m : MM} {o : OO} {i : Nat} (v : Int32) (hi : i < cntC c 19) : upW (wld G a c m o) 19 i (a 19 i, .inr (9, [.int (cI c 15 i), .int (cI c 16 i), .long (cL c 2 i), .int v, .long (cL c 3 i)])) = wld G a (sI c 17 i v) m o := by
  refine wld_C (by decide) hi (fun k => rfl) ?_ ?_
  · simp [celC, sI, cI, cL, up2, elA, cN] <;> rfl
  · intro k' i' hne
    unfold celC
    split <;> first | rfl | (have h9 : ¬ i' = i := fun e => hne ⟨rfl, e⟩; simp [sI, cI, cL, up2, elA, cN, h9] <;> rfl)
theorem wL_0 {G : GG} {a : AD} {c : CC} {m : MM} {o : OO} {i : Nat} (v : Int64) (hi : i < cntC c 1) : upW (wld G a c m o) 1 i (a 1 i, .inr (1, [.ref (a 4 0), .ref (a 5 0), .int (cI c 1 i), .int (cI c 2 i), .long v])) = wld G a (sL c 0 i v) m o := by
  refine wld_C (by decide) hi (fun k => rfl) ?_ ?_
  · simp [celC, sL, cI, cL, up2, elA, cN] <;> rfl
  · intro k' i' hne
    unfold celC
    split <;> first | rfl | (have h9 : ¬ i' = i := fun e => hne ⟨rfl, e⟩; simp [sL, cI, cL, up2, elA, cN, h9] <;> rfl)
theorem wL_1 {G : GG} {a : AD} {c : CC} {m : MM} {o : OO} {i : Nat} (v : Int64) (hi : i < cntC c 18) : upW (wld G a c m o) 18 i (a 18 i, .inr (8, [.int (cI c 13 i), .long v, .int (cI c 14 i)])) = wld G a (sL c 1 i v) m o := by
  refine wld_C (by decide) hi (fun k => rfl) ?_ ?_
  · simp [celC, sL, cI, cL, up2, elA, cN] <;> rfl
  · intro k' i' hne
    unfold celC
    split <;> first | rfl | (have h9 : ¬ i' = i := fun e => hne ⟨rfl, e⟩; simp [sL, cI, cL, up2, elA, cN, h9] <;> rfl)
theorem wL_2 {G : GG} {a : AD} {c : CC} {m : MM} {o : OO} {i : Nat} (v : Int64) (hi : i < cntC c 19) : upW (wld G a c m o) 19 i (a 19 i, .inr (9, [.int (cI c 15 i), .int (cI c 16 i), .long v, .int (cI c 17 i), .long (cL c 3 i)])) = wld G a (sL c 2 i v) m o := by
  refine wld_C (by decide) hi (fun k => rfl) ?_ ?_
  · simp [celC, sL, cI, cL, up2, elA, cN] <;> rfl
  · intro k' i' hne
    unfold celC
    split <;> first | rfl | (have h9 : ¬ i' = i := fun e => hne ⟨rfl, e⟩; simp [sL, cI, cL, up2, elA, cN, h9] <;> rfl)
theorem wL_3 {G : GG} {a : AD} {c : CC} {m : MM} {o : OO} {i : Nat} (v : Int64) (hi : i < cntC c 19) : upW (wld G a c m o) 19 i (a 19 i, .inr (9, [.int (cI c 15 i), .int (cI c 16 i), .long (cL c 2 i), .int (cI c 17 i), .long v])) = wld G a (sL c 3 i v) m o := by
  refine wld_C (by decide) hi (fun k => rfl) ?_ ?_
  · simp [celC, sL, cI, cL, up2, elA, cN] <;> rfl
  · intro k' i' hne
    unfold celC
    split <;> first | rfl | (have h9 : ¬ i' = i := fun e => hne ⟨rfl, e⟩; simp [sL, cI, cL, up2, elA, cN, h9] <;> rfl)
-- an array of the component is written
theorem wA_5 {G : GG} {a : AD} {c : CC} {m : MM} {o : OO} {i : Nat} (f : Nat → Int32) (hi : i < cntC c 5) : upW (wld G a c m o) 5 i (a 5 i, .inl (gA G 0, 64, .inl f)) = wld G a (sA c 5 i f) m o := by
  refine wld_C (by decide) hi (fun k => rfl) ?_ ?_
  · simp [celC, sA, cA, cJ, up2]
  · intro k' i' hne
    unfold celC
    split <;> first | rfl | (have h9 : ¬ i' = i := fun e => hne ⟨rfl, e⟩; simp [sA, cA, cJ, up2, h9])
theorem wA_7 {G : GG} {a : AD} {c : CC} {m : MM} {o : OO} {i : Nat} (f : Nat → Int32) (hi : i < cntC c 7) : upW (wld G a c m o) 7 i (a 7 i, .inl (gA G 0, 101, .inl f)) = wld G a (sA c 7 i f) m o := by
  refine wld_C (by decide) hi (fun k => rfl) ?_ ?_
  · simp [celC, sA, cA, cJ, up2]
  · intro k' i' hne
    unfold celC
    split <;> first | rfl | (have h9 : ¬ i' = i := fun e => hne ⟨rfl, e⟩; simp [sA, cA, cJ, up2, h9])
theorem wA_8 {G : GG} {a : AD} {c : CC} {m : MM} {o : OO} {i : Nat} (f : Nat → Int32) (hi : i < cntC c 8) : upW (wld G a c m o) 8 i (a 8 i, .inl (gA G 2, 101, .inl f)) = wld G a (sA c 8 i f) m o := by
  refine wld_C (by decide) hi (fun k => rfl) ?_ ?_
  · simp [celC, sA, cA, cJ, up2]
  · intro k' i' hne
    unfold celC
    split <;> first | rfl | (have h9 : ¬ i' = i := fun e => hne ⟨rfl, e⟩; simp [sA, cA, cJ, up2, h9])
theorem wA_9 {G : GG} {a : AD} {c : CC} {m : MM} {o : OO} {i : Nat} (f : Nat → Int32) (hi : i < cntC c 9) : upW (wld G a c m o) 9 i (a 9 i, .inl (gA G 2, 101, .inl f)) = wld G a (sA c 9 i f) m o := by
  refine wld_C (by decide) hi (fun k => rfl) ?_ ?_
  · simp [celC, sA, cA, cJ, up2]
  · intro k' i' hne
    unfold celC
    split <;> first | rfl | (have h9 : ¬ i' = i := fun e => hne ⟨rfl, e⟩; simp [sA, cA, cJ, up2, h9])
theorem wA_12 {G : GG} {a : AD} {c : CC} {m : MM} {o : OO} {i : Nat} (f : Nat → Int32) (hi : i < cntC c 12) : upW (wld G a c m o) 12 i (a 12 i, .inl (gA G 0, 160, .inl f)) = wld G a (sA c 12 i f) m o := by
  refine wld_C (by decide) hi (fun k => rfl) ?_ ?_
  · simp [celC, sA, cA, cJ, up2]
  · intro k' i' hne
    unfold celC
    split <;> first | rfl | (have h9 : ¬ i' = i := fun e => hne ⟨rfl, e⟩; simp [sA, cA, cJ, up2, h9])
theorem wJ_16 {G : GG} {a : AD} {c : CC} {m : MM} {o : OO} {i : Nat} (f : Nat → Int64) (hi : i < cntC c 16) : upW (wld G a c m o) 16 i (a 16 i, .inl (gA G 1, 2, .inr (.inl f))) = wld G a (sJ c 16 i f) m o := by
  refine wld_C (by decide) hi (fun k => rfl) ?_ ?_
  · simp [celC, sJ, cA, cJ, up2]
  · intro k' i' hne
    unfold celC
    split <;> first | rfl | (have h9 : ¬ i' = i := fun e => hne ⟨rfl, e⟩; simp [sJ, cA, cJ, up2, h9])
theorem wR_4 {G : GG} {a : AD} {c : CC} {m : MM} {o : OO} {i : Nat} (f : Nat → Option Nat) (g : Nat → Option Nat) (hg : ∀ j, f j = (g j).map (a 15)) (hi : i < cntC c 4) : upW (wld G a c m o) 4 i (a 4 i, .inl (gA G 3, 69, .inr (.inr (.inr (.inr f))))) = wld G a (sR c 4 i g) m o := by
  obtain rfl : f = fun j => (g j).map (a 15) := funext hg
  refine wld_C (by decide) hi (fun k => rfl) ?_ ?_
  · simp [celC, sR, cR, up2]
  · intro k' i' hne
    unfold celC
    split <;> first | rfl | (have h9 : ¬ i' = i := fun e => hne ⟨rfl, e⟩; simp [sR, cR, up2, h9])
theorem wR_6 {G : GG} {a : AD} {c : CC} {m : MM} {o : OO} {i : Nat} (f : Nat → Option Nat) (g : Nat → Option Nat) (hg : ∀ j, f j = (g j).map (a 17)) (hi : i < cntC c 6) : upW (wld G a c m o) 6 i (a 6 i, .inl (gA G 4, 8, .inr (.inr (.inr (.inr f))))) = wld G a (sR c 6 i g) m o := by
  obtain rfl : f = fun j => (g j).map (a 17) := funext hg
  refine wld_C (by decide) hi (fun k => rfl) ?_ ?_
  · simp [celC, sR, cR, up2]
  · intro k' i' hne
    unfold celC
    split <;> first | rfl | (have h9 : ¬ i' = i := fun e => hne ⟨rfl, e⟩; simp [sR, cR, up2, h9])
theorem wR_10 {G : GG} {a : AD} {c : CC} {m : MM} {o : OO} {i : Nat} (f : Nat → Option Nat) (g : Nat → Option Nat) (hg : ∀ j, f j = (g j).map (a 11)) (hi : i < cntC c 10) : upW (wld G a c m o) 10 i (a 10 i, .inl (gA G 5, 2, .inr (.inr (.inr (.inr f))))) = wld G a (sR c 10 i g) m o := by
  obtain rfl : f = fun j => (g j).map (a 11) := funext hg
  refine wld_C (by decide) hi (fun k => rfl) ?_ ?_
  · simp [celC, sR, cR, up2]
  · intro k' i' hne
    unfold celC
    split <;> first | rfl | (have h9 : ¬ i' = i := fun e => hne ⟨rfl, e⟩; simp [sR, cR, up2, h9])
theorem wO_20 {G : GG} {a : AD} {c : CC} {m : MM} {o : OO} (v : Int64) : upW (wld G a c m o) 20 0 (a 20 0, .inl (gA G 1, 1, .inr (.inl (fun _ => v)))) = wld G a c m v := by
  refine wld_up ?_ ?_
  · rfl
  · intro k' i' hne
    unfold wld
    by_cases hk : k' < 30
    · rw [if_pos hk, if_pos hk]
      by_cases hi : i' < cntC c k'
      · rw [if_pos hi, if_pos hi]
        unfold celC
        split <;> first | rfl | exact absurd ⟨rfl, Nat.lt_one_iff.mp hi⟩ hne
      · rw [if_neg hi, if_neg hi]
    · rw [if_neg hk, if_neg hk]
-- the model is written
theorem celM_I {G : GG} {a : AD} {m : MM} {k : Nat} {v : Int32} : ∀ j, j ≠ 0 → celM G a (smI m k v) j = celM G a m j := by
  intro j hj
  unfold celM
  split <;> first | rfl | exact absurd rfl hj
theorem celM_L {G : GG} {a : AD} {m : MM} {k : Nat} {v : Int64} : ∀ j, j ≠ 0 → celM G a (smL m k v) j = celM G a m j := by
  intro j hj
  unfold celM
  split <;> first | rfl | exact absurd rfl hj
theorem wmI_0 {G : GG} {a : AD} {c : CC} {m : MM} {o : OO} (v : Int32) : upW (wld G a c m o) 30 0 (a 30 0, .inr (11, [.int v, .ref (a 31 0), .int (mI m 1), .ref (a 32 0), .int (mI m 2), .long (mL m 0), .int (mI m 3), .int (mI m 4), .int (mI m 5), .ref (a 33 0), .ref (a 34 0), .ref (a 35 0), .ref (a 36 0), .ref (a 37 0), .ref (a 38 0), .int (mI m 6), .int (mI m 7), .ref (a 39 0), .ref (a 40 0), .ref (a 41 0), .int (mI m 8), .ref (a 42 0), .ref (a 43 0), .ref (a 44 0), .ref (a 45 0), .int (mI m 9), .ref (a 46 0)])) = wld G a c (smI m 0 v) o := wld_M (j := 0) rfl celM_I
theorem wmI_1 {G : GG} {a : AD} {c : CC} {m : MM} {o : OO} (v : Int32) : upW (wld G a c m o) 30 0 (a 30 0, .inr (11, [.int (mI m 0), .ref (a 31 0), .int v, .ref (a 32 0), .int (mI m 2), .long (mL m 0), .int (mI m 3), .int (mI m 4), .int (mI m 5), .ref (a 33 0), .ref (a 34 0), .ref (a 35 0), .ref (a 36 0), .ref (a 37 0), .ref (a 38 0), .int (mI m 6), .int (mI m 7), .ref (a 39 0), .ref (a 40 0), .ref (a 41 0), .int (mI m 8), .ref (a 42 0), .ref (a 43 0), .ref (a 44 0), .ref (a 45 0), .int (mI m 9), .ref (a 46 0)])) = wld G a c (smI m 1 v) o := wld_M (j := 0) rfl celM_I
theorem wmI_2 {G : GG} {a : AD} {c : CC} {m : MM} {o : OO} (v : Int32) : upW (wld G a c m o) 30 0 (a 30 0, .inr (11, [.int (mI m 0), .ref (a 31 0), .int (mI m 1), .ref (a 32 0), .int v, .long (mL m 0), .int (mI m 3), .int (mI m 4), .int (mI m 5), .ref (a 33 0), .ref (a 34 0), .ref (a 35 0), .ref (a 36 0), .ref (a 37 0), .ref (a 38 0), .int (mI m 6), .int (mI m 7), .ref (a 39 0), .ref (a 40 0), .ref (a 41 0), .int (mI m 8), .ref (a 42 0), .ref (a 43 0), .ref (a 44 0), .ref (a 45 0), .int (mI m 9), .ref (a 46 0)])) = wld G a c (smI m 2 v) o := wld_M (j := 0) rfl celM_I
theorem wmL_0 {G : GG} {a : AD} {c : CC} {m : MM} {o : OO} (v : Int64) : upW (wld G a c m o) 30 0 (a 30 0, .inr (11, [.int (mI m 0), .ref (a 31 0), .int (mI m 1), .ref (a 32 0), .int (mI m 2), .long v, .int (mI m 3), .int (mI m 4), .int (mI m 5), .ref (a 33 0), .ref (a 34 0), .ref (a 35 0), .ref (a 36 0), .ref (a 37 0), .ref (a 38 0), .int (mI m 6), .int (mI m 7), .ref (a 39 0), .ref (a 40 0), .ref (a 41 0), .int (mI m 8), .ref (a 42 0), .ref (a 43 0), .ref (a 44 0), .ref (a 45 0), .int (mI m 9), .ref (a 46 0)])) = wld G a c (smL m 0 v) o := wld_M (j := 0) rfl celM_L
theorem wmI_3 {G : GG} {a : AD} {c : CC} {m : MM} {o : OO} (v : Int32) : upW (wld G a c m o) 30 0 (a 30 0, .inr (11, [.int (mI m 0), .ref (a 31 0), .int (mI m 1), .ref (a 32 0), .int (mI m 2), .long (mL m 0), .int v, .int (mI m 4), .int (mI m 5), .ref (a 33 0), .ref (a 34 0), .ref (a 35 0), .ref (a 36 0), .ref (a 37 0), .ref (a 38 0), .int (mI m 6), .int (mI m 7), .ref (a 39 0), .ref (a 40 0), .ref (a 41 0), .int (mI m 8), .ref (a 42 0), .ref (a 43 0), .ref (a 44 0), .ref (a 45 0), .int (mI m 9), .ref (a 46 0)])) = wld G a c (smI m 3 v) o := wld_M (j := 0) rfl celM_I
theorem wmI_4 {G : GG} {a : AD} {c : CC} {m : MM} {o : OO} (v : Int32) : upW (wld G a c m o) 30 0 (a 30 0, .inr (11, [.int (mI m 0), .ref (a 31 0), .int (mI m 1), .ref (a 32 0), .int (mI m 2), .long (mL m 0), .int (mI m 3), .int v, .int (mI m 5), .ref (a 33 0), .ref (a 34 0), .ref (a 35 0), .ref (a 36 0), .ref (a 37 0), .ref (a 38 0), .int (mI m 6), .int (mI m 7), .ref (a 39 0), .ref (a 40 0), .ref (a 41 0), .int (mI m 8), .ref (a 42 0), .ref (a 43 0), .ref (a 44 0), .ref (a 45 0), .int (mI m 9), .ref (a 46 0)])) = wld G a c (smI m 4 v) o := wld_M (j := 0) rfl celM_I
theorem wmI_5 {G : GG} {a : AD} {c : CC} {m : MM} {o : OO} (v : Int32) : upW (wld G a c m o) 30 0 (a 30 0, .inr (11, [.int (mI m 0), .ref (a 31 0), .int (mI m 1), .ref (a 32 0), .int (mI m 2), .long (mL m 0), .int (mI m 3), .int (mI m 4), .int v, .ref (a 33 0), .ref (a 34 0), .ref (a 35 0), .ref (a 36 0), .ref (a 37 0), .ref (a 38 0), .int (mI m 6), .int (mI m 7), .ref (a 39 0), .ref (a 40 0), .ref (a 41 0), .int (mI m 8), .ref (a 42 0), .ref (a 43 0), .ref (a 44 0), .ref (a 45 0), .int (mI m 9), .ref (a 46 0)])) = wld G a c (smI m 5 v) o := wld_M (j := 0) rfl celM_I
theorem wmI_6 {G : GG} {a : AD} {c : CC} {m : MM} {o : OO} (v : Int32) : upW (wld G a c m o) 30 0 (a 30 0, .inr (11, [.int (mI m 0), .ref (a 31 0), .int (mI m 1), .ref (a 32 0), .int (mI m 2), .long (mL m 0), .int (mI m 3), .int (mI m 4), .int (mI m 5), .ref (a 33 0), .ref (a 34 0), .ref (a 35 0), .ref (a 36 0), .ref (a 37 0), .ref (a 38 0), .int v, .int (mI m 7), .ref (a 39 0), .ref (a 40 0), .ref (a 41 0), .int (mI m 8), .ref (a 42 0), .ref (a 43 0), .ref (a 44 0), .ref (a 45 0), .int (mI m 9), .ref (a 46 0)])) = wld G a c (smI m 6 v) o := wld_M (j := 0) rfl celM_I
theorem wmI_7 {G : GG} {a : AD} {c : CC} {m : MM} {o : OO} (v : Int32) : upW (wld G a c m o) 30 0 (a 30 0, .inr (11, [.int (mI m 0), .ref (a 31 0), .int (mI m 1), .ref (a 32 0), .int (mI m 2), .long (mL m 0), .int (mI m 3), .int (mI m 4), .int (mI m 5), .ref (a 33 0), .ref (a 34 0), .ref (a 35 0), .ref (a 36 0), .ref (a 37 0), .ref (a 38 0), .int (mI m 6), .int v, .ref (a 39 0), .ref (a 40 0), .ref (a 41 0), .int (mI m 8), .ref (a 42 0), .ref (a 43 0), .ref (a 44 0), .ref (a 45 0), .int (mI m 9), .ref (a 46 0)])) = wld G a c (smI m 7 v) o := wld_M (j := 0) rfl celM_I
theorem wmI_8 {G : GG} {a : AD} {c : CC} {m : MM} {o : OO} (v : Int32) : upW (wld G a c m o) 30 0 (a 30 0, .inr (11, [.int (mI m 0), .ref (a 31 0), .int (mI m 1), .ref (a 32 0), .int (mI m 2), .long (mL m 0), .int (mI m 3), .int (mI m 4), .int (mI m 5), .ref (a 33 0), .ref (a 34 0), .ref (a 35 0), .ref (a 36 0), .ref (a 37 0), .ref (a 38 0), .int (mI m 6), .int (mI m 7), .ref (a 39 0), .ref (a 40 0), .ref (a 41 0), .int v, .ref (a 42 0), .ref (a 43 0), .ref (a 44 0), .ref (a 45 0), .int (mI m 9), .ref (a 46 0)])) = wld G a c (smI m 8 v) o := wld_M (j := 0) rfl celM_I
theorem wmI_9 {G : GG} {a : AD} {c : CC} {m : MM} {o : OO} (v : Int32) : upW (wld G a c m o) 30 0 (a 30 0, .inr (11, [.int (mI m 0), .ref (a 31 0), .int (mI m 1), .ref (a 32 0), .int (mI m 2), .long (mL m 0), .int (mI m 3), .int (mI m 4), .int (mI m 5), .ref (a 33 0), .ref (a 34 0), .ref (a 35 0), .ref (a 36 0), .ref (a 37 0), .ref (a 38 0), .int (mI m 6), .int (mI m 7), .ref (a 39 0), .ref (a 40 0), .ref (a 41 0), .int (mI m 8), .ref (a 42 0), .ref (a 43 0), .ref (a 44 0), .ref (a 45 0), .int v, .ref (a 46 0)])) = wld G a c (smI m 9 v) o := wld_M (j := 0) rfl celM_I
theorem wmA_1 {G : GG} {a : AD} {c : CC} {m : MM} {o : OO} (f : Nat → Int32) : upW (wld G a c m o) 31 0 (a 31 0, .inl (gA G 2, 69, .inl f)) = wld G a c (smA m 1 f) o := by
  refine wld_M (j := 1) rfl ?_
  intro j' hj
  unfold celM
  split <;> first | rfl | exact absurd rfl hj
theorem wmJ_2 {G : GG} {a : AD} {c : CC} {m : MM} {o : OO} (f : Nat → Int64) : upW (wld G a c m o) 32 0 (a 32 0, .inl (gA G 1, 101, .inr (.inl f))) = wld G a c (smJ m 2 f) o := by
  refine wld_M (j := 2) rfl ?_
  intro j' hj
  unfold celM
  split <;> first | rfl | exact absurd rfl hj
theorem wmA_3 {G : GG} {a : AD} {c : CC} {m : MM} {o : OO} (f : Nat → Int32) : upW (wld G a c m o) 33 0 (a 33 0, .inl (gA G 0, 8, .inl f)) = wld G a c (smA m 3 f) o := by
  refine wld_M (j := 3) rfl ?_
  intro j' hj
  unfold celM
  split <;> first | rfl | exact absurd rfl hj
theorem wmA_4 {G : GG} {a : AD} {c : CC} {m : MM} {o : OO} (f : Nat → Int32) : upW (wld G a c m o) 34 0 (a 34 0, .inl (gA G 0, 8, .inl f)) = wld G a c (smA m 4 f) o := by
  refine wld_M (j := 4) rfl ?_
  intro j' hj
  unfold celM
  split <;> first | rfl | exact absurd rfl hj
theorem wmA_5 {G : GG} {a : AD} {c : CC} {m : MM} {o : OO} (f : Nat → Int32) : upW (wld G a c m o) 35 0 (a 35 0, .inl (gA G 0, 512, .inl f)) = wld G a c (smA m 5 f) o := by
  refine wld_M (j := 5) rfl ?_
  intro j' hj
  unfold celM
  split <;> first | rfl | exact absurd rfl hj
theorem wmA_6 {G : GG} {a : AD} {c : CC} {m : MM} {o : OO} (f : Nat → Int32) : upW (wld G a c m o) 36 0 (a 36 0, .inl (gA G 0, 8, .inl f)) = wld G a c (smA m 6 f) o := by
  refine wld_M (j := 6) rfl ?_
  intro j' hj
  unfold celM
  split <;> first | rfl | exact absurd rfl hj
theorem wmJ_7 {G : GG} {a : AD} {c : CC} {m : MM} {o : OO} (f : Nat → Int64) : upW (wld G a c m o) 37 0 (a 37 0, .inl (gA G 1, 8, .inr (.inl f))) = wld G a c (smJ m 7 f) o := by
  refine wld_M (j := 7) rfl ?_
  intro j' hj
  unfold celM
  split <;> first | rfl | exact absurd rfl hj
theorem wmA_8 {G : GG} {a : AD} {c : CC} {m : MM} {o : OO} (f : Nat → Int32) : upW (wld G a c m o) 38 0 (a 38 0, .inl (gA G 2, 8, .inl f)) = wld G a c (smA m 8 f) o := by
  refine wld_M (j := 8) rfl ?_
  intro j' hj
  unfold celM
  split <;> first | rfl | exact absurd rfl hj
theorem wmA_9 {G : GG} {a : AD} {c : CC} {m : MM} {o : OO} (f : Nat → Int32) : upW (wld G a c m o) 39 0 (a 39 0, .inl (gA G 2, 101, .inl f)) = wld G a c (smA m 9 f) o := by
  refine wld_M (j := 9) rfl ?_
  intro j' hj
  unfold celM
  split <;> first | rfl | exact absurd rfl hj
theorem wmA_10 {G : GG} {a : AD} {c : CC} {m : MM} {o : OO} (f : Nat → Int32) : upW (wld G a c m o) 40 0 (a 40 0, .inl (gA G 0, 160, .inl f)) = wld G a c (smA m 10 f) o := by
  refine wld_M (j := 10) rfl ?_
  intro j' hj
  unfold celM
  split <;> first | rfl | exact absurd rfl hj
theorem wmA_11 {G : GG} {a : AD} {c : CC} {m : MM} {o : OO} (f : Nat → Int32) : upW (wld G a c m o) 41 0 (a 41 0, .inl (gA G 0, 101, .inl f)) = wld G a c (smA m 11 f) o := by
  refine wld_M (j := 11) rfl ?_
  intro j' hj
  unfold celM
  split <;> first | rfl | exact absurd rfl hj
theorem wmA_12 {G : GG} {a : AD} {c : CC} {m : MM} {o : OO} (f : Nat → Int32) : upW (wld G a c m o) 42 0 (a 42 0, .inl (gA G 0, 16, .inl f)) = wld G a c (smA m 12 f) o := by
  refine wld_M (j := 12) rfl ?_
  intro j' hj
  unfold celM
  split <;> first | rfl | exact absurd rfl hj
theorem wmA_13 {G : GG} {a : AD} {c : CC} {m : MM} {o : OO} (f : Nat → Int32) : upW (wld G a c m o) 43 0 (a 43 0, .inl (gA G 2, 16, .inl f)) = wld G a c (smA m 13 f) o := by
  refine wld_M (j := 13) rfl ?_
  intro j' hj
  unfold celM
  split <;> first | rfl | exact absurd rfl hj
theorem wmJ_14 {G : GG} {a : AD} {c : CC} {m : MM} {o : OO} (f : Nat → Int64) : upW (wld G a c m o) 44 0 (a 44 0, .inl (gA G 1, 16, .inr (.inl f))) = wld G a c (smJ m 14 f) o := by
  refine wld_M (j := 14) rfl ?_
  intro j' hj
  unfold celM
  split <;> first | rfl | exact absurd rfl hj
theorem wmA_15 {G : GG} {a : AD} {c : CC} {m : MM} {o : OO} (f : Nat → Int32) : upW (wld G a c m o) 45 0 (a 45 0, .inl (gA G 2, 16, .inl f)) = wld G a c (smA m 15 f) o := by
  refine wld_M (j := 15) rfl ?_
  intro j' hj
  unfold celM
  split <;> first | rfl | exact absurd rfl hj
theorem wmJ_16 {G : GG} {a : AD} {c : CC} {m : MM} {o : OO} (f : Nat → Int64) : upW (wld G a c m o) 46 0 (a 46 0, .inl (gA G 1, 16, .inr (.inl f))) = wld G a c (smJ m 16 f) o := by
  refine wld_M (j := 16) rfl ?_
  intro j' hj
  unfold celM
  split <;> first | rfl | exact absurd rfl hj
