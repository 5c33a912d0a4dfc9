/-! new objects come into the world; by hand -/
theorem map_up2 {a : AD} {k n q : Nat} {x : Option Nat} (h : ∀ y, x = some y → y < n) : x.map (up2 a k n q k) = x.map (a k) := by
  cases x with
  | none => rfl
  | some y =>
    have := h y rfl
    show some (up2 a k n q k y) = some (a k y)
    unfold up2; rw [if_pos rfl, if_neg (by omega)]
def newQ (c : CC) (p y : Int32) (v : Int64) : CC := sN (sL (sL (sI (sI (sI c 15 (cN c 19 0) p) 16 (cN c 19 0) y) 17 (cN c 19 0) 0) 2 (cN c 19 0) v) 3 (cN c 19 0) 0) 19 0 (cN c 19 0 + 1)
theorem w_newQ {G : GG} {a : AD} {c : CC} {m : MM} {o : OO} {q : Nat} {p y : Int32} {v : Int64} (hel : ∀ i j z, cR c 14 i j = some z → z < cN c 19 0) :
    upW (wld G a c m o) 19 (cN c 19 0) (q, .inr (9, [.int p, .int y, .long v, .int 0, .long 0])) = wld G (up2 a 19 (cN c 19 0) q) (newQ c p y v) m o := by
  funext k i
  have e14 : ∀ i, (fun j => (cR c 14 i j).map (up2 a 19 (cN c 19 0) q 19)) = fun j => (cR c 14 i j).map (a 19) := fun i => funext fun j => map_up2 (hel i j)
  by_cases h19 : k = 19
  · subst h19
    by_cases hi : i = cN c 19 0
    · subst hi
      rw [upW_self]
      unfold wld
      rw [if_pos (by decide), if_pos (show cN c 19 0 < cntC (newQ c p y v) 19 from Nat.lt_succ_self _)]
      simp [celC, newQ, cI, cL, sN, sL, sI, up2]
    · rw [upW_ne _ _ (fun z => hi z.2)]
      unfold wld
      rw [if_pos (show 19 < 30 by decide), if_pos (show 19 < 30 by decide)]
      show (if i < cN c 19 0 then _ else _) = if i < cN c 19 0 + 1 then _ else _
      by_cases hc : i < cN c 19 0
      · rw [if_pos hc, if_pos (by omega)]
        simp [celC, newQ, cI, cL, sN, sL, sI, up2, hi]
      · rw [if_neg hc, if_neg (by omega)]
  · rw [upW_ne _ _ (fun z => h19 z.1)]
    unfold wld
    by_cases hk : k < 30
    · rw [if_pos hk, if_pos hk]
      have hn : cntC (newQ c p y v) k = cntC c k := by unfold cntC; split <;> first | rfl | exact absurd rfl h19
      rw [hn]
      by_cases hc : i < cntC c k
      · rw [if_pos hc, if_pos hc]
        unfold celC
        split <;> first | rfl | exact absurd rfl h19 | (show (if cN c 14 i = 0 then none else some (a 14 i, _)) = if cN c 14 i = 0 then none else some (a 14 i, _); rw [← e14 i]; rfl)
      · rw [if_neg hc, if_neg hc]
    · rw [if_neg hk, if_neg hk]
      by_cases h0 : i = 0
      · rw [if_pos h0, if_pos h0]; unfold celM; split <;> rfl
      · rw [if_neg h0, if_neg h0]
def newF (c : CC) (nm : Int32) : CC := sN (sI (sL (sI (sI (sI (sI c 10 (cN c 17 0) nm) 11 (cN c 17 0) 0) 12 (cN c 17 0) 0) 13 (cN c 17 0) (-1)) 1 (cN c 17 0) 0) 14 (cN c 17 0) 0) 17 0 (cN c 17 0 + 1)
theorem w_newF {G : GG} {a : AD} {c : CC} {m : MM} {o : OO} {x q : Nat} {nm : Int32} (hel : ∀ i j z, cR c 6 i j = some z → z < cN c 17 0) :
    upW (upW (wld G a c m o) 17 (cN c 17 0) (x, .inr (7, [.int nm, .int 0, .int 0, .ref q]))) 18 (cN c 17 0) (q, .inr (8, [.int (-1), .long 0, .int 0])) = wld G (up2 (up2 a 17 (cN c 17 0) x) 18 (cN c 17 0) q) (newF c nm) m o := by
  funext k i
  have e6 : ∀ i, (fun j => (cR c 6 i j).map (up2 a 17 (cN c 17 0) x 17)) = fun j => (cR c 6 i j).map (a 17) := fun i => funext fun j => map_up2 (hel i j)
  by_cases h18 : k = 18
  · subst h18
    by_cases hi : i = cN c 17 0
    · subst hi
      rw [upW_self]
      unfold wld
      rw [if_pos (by decide), if_pos (show cN c 17 0 < cntC (newF c nm) 18 from Nat.lt_succ_self _)]
      simp [celC, newF, cI, cL, sN, sL, sI, up2]
    · rw [upW_ne _ _ (fun z => hi z.2), upW_ne _ _ (fun z => absurd z.1 (by decide))]
      unfold wld
      rw [if_pos (show 18 < 30 by decide), if_pos (show 18 < 30 by decide)]
      show (if i < cN c 17 0 then _ else _) = if i < cN c 17 0 + 1 then _ else _
      by_cases hc : i < cN c 17 0
      · rw [if_pos hc, if_pos (by omega)]
        simp [celC, newF, cI, cL, sN, sL, sI, up2, hi]
      · rw [if_neg hc, if_neg (by omega)]
  · rw [upW_ne _ _ (fun z => h18 z.1)]
    by_cases h17 : k = 17
    · subst h17
      by_cases hi : i = cN c 17 0
      · subst hi
        rw [upW_self]
        unfold wld
        rw [if_pos (by decide), if_pos (show cN c 17 0 < cntC (newF c nm) 17 from Nat.lt_succ_self _)]
        simp [celC, newF, cI, cL, sN, sL, sI, up2]
      · rw [upW_ne _ _ (fun z => hi z.2)]
        unfold wld
        rw [if_pos (show 17 < 30 by decide), if_pos (show 17 < 30 by decide)]
        show (if i < cN c 17 0 then _ else _) = if i < cN c 17 0 + 1 then _ else _
        by_cases hc : i < cN c 17 0
        · rw [if_pos hc, if_pos (by omega)]
          simp [celC, newF, cI, cL, sN, sL, sI, up2, hi]
        · rw [if_neg hc, if_neg (by omega)]
    · rw [upW_ne _ _ (fun z => h17 z.1)]
      unfold wld
      by_cases hk : k < 30
      · rw [if_pos hk, if_pos hk]
        have hn : cntC (newF c nm) k = cntC c k := by unfold cntC; split <;> first | rfl | exact absurd rfl h17 | exact absurd rfl h18
        rw [hn]
        by_cases hc : i < cntC c k
        · rw [if_pos hc, if_pos hc]
          unfold celC
          split <;> first | rfl | exact absurd rfl h17 | exact absurd rfl h18 | (show some (a 6 i, _) = some (a 6 i, _); rw [← e6 i]; rfl)
        · rw [if_neg hc, if_neg hc]
      · rw [if_neg hk, if_neg hk]
        by_cases h0 : i = 0
        · rw [if_pos h0, if_pos h0]; unfold celM; split <;> rfl
        · rw [if_neg h0, if_neg h0]
