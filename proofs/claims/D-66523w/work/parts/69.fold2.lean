/-! a new stuck loop comes into the world; by hand -/
def newL (c : CC) (v : Int32) : CC := sN (sN (sJ (sI c 9 (cN c 15 0) v) 16 (cN c 15 0) (fun _ => 0)) 16 (cN c 15 0) 1) 15 0 (cN c 15 0 + 1)
theorem w_newL {G : GG} {a : AD} {c : CC} {m : MM} {o : OO} {x q : Nat} {v : Int32} (hel : ∀ i j z, cR c 4 i j = some z → z < cN c 15 0) :
    upW (upW (wld G a c m o) 15 (cN c 15 0) (x, .inr (6, [.int v, .ref q]))) 16 (cN c 15 0) (q, .inl (gA G 1, 2, .inr (.inl (fun _ => 0)))) = wld G (up2 (up2 a 15 (cN c 15 0) x) 16 (cN c 15 0) q) (newL c v) m o := by
  funext k i
  have e4 : ∀ i, (fun j => (cR c 4 i j).map (up2 a 15 (cN c 15 0) x 15)) = fun j => (cR c 4 i j).map (a 15) := fun i => funext fun j => map_up2 (hel i j)
  by_cases h16 : k = 16
  · subst h16
    by_cases hi : i = cN c 15 0
    · subst hi
      rw [upW_self]
      unfold wld
      rw [if_pos (by decide), if_pos (show cN c 15 0 < cntC (newL c v) 16 from Nat.lt_succ_self _)]
      simp [celC, newL, cJ, sN, sJ, sI, up2]
    · rw [upW_ne _ _ (fun z => hi z.2), upW_ne _ _ (fun z => absurd z.1 (by decide))]
      unfold wld
      rw [if_pos (show 16 < 30 by decide), if_pos (show 16 < 30 by decide)]
      show (if i < cN c 15 0 then _ else _) = if i < cN c 15 0 + 1 then _ else _
      by_cases hc : i < cN c 15 0
      · rw [if_pos hc, if_pos (by omega)]
        simp [celC, newL, cJ, sN, sJ, sI, up2, hi]
      · rw [if_neg hc, if_neg (by omega)]
  · rw [upW_ne _ _ (fun z => h16 z.1)]
    by_cases h15 : k = 15
    · subst h15
      by_cases hi : i = cN c 15 0
      · subst hi
        rw [upW_self]
        unfold wld
        rw [if_pos (by decide), if_pos (show cN c 15 0 < cntC (newL c v) 15 from Nat.lt_succ_self _)]
        simp [celC, newL, cI, cN, sN, sJ, sI, up2]
      · rw [upW_ne _ _ (fun z => hi z.2)]
        unfold wld
        rw [if_pos (show 15 < 30 by decide), if_pos (show 15 < 30 by decide)]
        show (if i < cN c 15 0 then _ else _) = if i < cN c 15 0 + 1 then _ else _
        by_cases hc : i < cN c 15 0
        · rw [if_pos hc, if_pos (by omega)]
          have hi' : ¬ i = c.2.2.2.2.2 15 0 := hi
          have e16 : cN (newL c v) 16 i = cN c 16 i := by simp [newL, cN, sN, sJ, sI, up2, hi']
          have e9 : cI (newL c v) 9 i = cI c 9 i := by simp [newL, cI, cN, sN, sJ, sI, up2, hi']
          have ea : up2 (up2 a 15 (cN c 15 0) x) 16 (cN c 15 0) q 15 i = a 15 i := by simp [up2, hi]
          have eb : up2 (up2 a 15 (cN c 15 0) x) 16 (cN c 15 0) q 16 i = a 16 i := by simp [up2, hi]
          simp only [celC, e16, e9, ea, eb]
        · rw [if_neg hc, if_neg (by omega)]
    · rw [upW_ne _ _ (fun z => h15 z.1)]
      unfold wld
      by_cases hk : k < 30
      · rw [if_pos hk, if_pos hk]
        have hn : cntC (newL c v) k = cntC c k := by unfold cntC; split <;> first | rfl | exact absurd rfl h15 | exact absurd rfl h16
        rw [hn]
        by_cases hc : i < cntC c k
        · rw [if_pos hc, if_pos hc]
          unfold celC
          split <;> first | rfl | exact absurd rfl h15 | exact absurd rfl h16 | (show some (a 4 i, _) = some (a 4 i, _); rw [← e4 i]; rfl)
        · rw [if_neg hc, if_neg hc]
      · rw [if_neg hk, if_neg hk]
        by_cases h0 : i = 0
        · rw [if_pos h0, if_pos h0]; unfold celM; split <;> rfl
        · rw [if_neg h0, if_neg h0]
