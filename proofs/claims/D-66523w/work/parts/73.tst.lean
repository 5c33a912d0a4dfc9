/-! the chip's test: what the pages hold behind it; by hand -/
def nth (c : CC) (lp : Nat → Nat) : Nat → Nat → Nat
  | 0, _ => 0
  | k + 1, n => if gd c lp k = true ∧ gN c lp k = n then k else nth c lp k n
theorem gN_mono (c : CC) (lp : Nat → Nat) : ∀ a b, a ≤ b → gN c lp a ≤ gN c lp b
  | a, 0, h => by rw [Nat.le_zero.mp h]; exact Nat.le_refl _
  | a, b + 1, h => by
    by_cases e : a = b + 1
    · rw [e]; exact Nat.le_refl _
    · have := gN_mono c lp a b (by omega); rw [gN]; split <;> omega
theorem nth_ok (c : CC) (lp : Nat → Nat) {n : Nat} : ∀ k, n < gN c lp k → nth c lp k n < k ∧ gd c lp (nth c lp k n) = true ∧ gN c lp (nth c lp k n) = n
  | 0, h => absurd h (Nat.not_lt_zero _)
  | k + 1, h => by
    rw [nth]
    by_cases e : gd c lp k = true ∧ gN c lp k = n
    · rw [if_pos e]; exact ⟨by omega, e.1, e.2⟩
    · rw [if_neg e]
      have hk : n < gN c lp k := by
        rw [gN] at h
        by_cases g : gd c lp k = true
        · rw [if_pos g] at h
          have : gN c lp k ≠ n := fun z => e ⟨g, z⟩
          omega
        · rw [if_neg g] at h; omega
      have z := nth_ok c lp k hk
      exact ⟨by omega, z.2⟩
theorem cT1_J (c : CC) (j p : Nat) (hp : p < 101) (j' q : Nat) : lB (cJ (cT1 c j p) 16 j') q = if j' = j ∧ q = p then false else lB (cJ c 16 j') q := by
  unfold cT1
  by_cases e : j' = j
  · subst e
    rw [cJ_J, if_pos rfl, if_pos rfl, show (0 : Int32) = bI false from rfl, lSet_bit _ hp]
    by_cases e2 : q = p
    · rw [if_pos e2, if_pos ⟨rfl, e2⟩]
    · rw [if_neg e2, if_neg (fun z => e2 z.2), cJ_J, if_pos rfl, if_pos rfl, show (1 : Int32) = bI true from rfl, lSet_bit _ hp, if_neg e2]
  · rw [cJ_J, if_pos rfl, if_neg e, cJ_J, if_pos rfl, if_neg e, if_neg (fun z => e z.1)]
theorem cT2_J (c : CC) (j : Nat) (j' q : Nat) : ∀ p, p ≤ 101 → lB (cJ (cT2 c j p) 16 j') q = if j' = j ∧ q < p then false else lB (cJ c 16 j') q
  | 0, _ => by rw [if_neg (fun z => absurd z.2 (Nat.not_lt_zero _))]; rfl
  | p + 1, hp => by
    rw [cT2, cT1_J _ _ _ (by omega), cT2_J c j j' q p (by omega)]
    by_cases e : j' = j ∧ q = p
    · rw [if_pos e, if_pos ⟨e.1, by omega⟩]
    · rw [if_neg e]
      by_cases e2 : j' = j ∧ q < p
      · rw [if_pos e2, if_pos ⟨e2.1, by omega⟩]
      · rw [if_neg e2, if_neg (fun z => e2 ⟨z.1, by have : q ≠ p := fun y => e ⟨z.1, y⟩
                                                    omega⟩)]
theorem cTL_J (c : CC) (j j' : Nat) {q : Nat} (hq : q < 101) : lB (cJ (cTL c j) 16 j') q = if j' = j then false else lB (cJ c 16 j') q := by
  rw [cTL, cT2_J c j j' q 101 (Nat.le_refl _)]
  by_cases e : j' = j
  · rw [if_pos ⟨e, hq⟩, if_pos e]
  · rw [if_neg (fun z => e z.1), if_neg e]
theorem cT3_J (c : CC) (lp : Nat → Nat) (N : Nat) (hi : ∀ k k', k < N → k' < N → lp k = lp k' → k = k') {i : Nat} (hi9 : i < N) {q : Nat} (hq : q < 101) (k : Nat) : k ≤ N → i < k → lB (cJ (cT3 c lp k) 16 (lp i)) q = false := by
  induction k with
  | zero => intro _ h; exact absurd h (Nat.not_lt_zero _)
  | succ k ih =>
    intro hk h
    have key : lB (cJ (cTL (cT3 c lp k) (lp k)) 16 (lp i)) q = false := by
      rw [cTL_J _ _ _ hq]
      by_cases e : lp i = lp k
      · rw [if_pos e]
      · rw [if_neg e]
        exact ih (by omega) (by have : i ≠ k := fun z => e (by rw [z])
                                omega)
    rw [cT3]
    by_cases e2 : gd c lp k = true ∧ gN c lp k < 64
    · rw [if_pos e2, cJ_A]; exact key
    · rw [if_neg e2]; exact key
theorem cT3_A (c : CC) (lp : Nat → Nat) {n : Nat} (hn : n < 64) : ∀ k, n < gN c lp k → cA (cT3 c lp k) 5 0 n = nI (nth c lp k n)
  | 0, h => absurd h (Nat.not_lt_zero _)
  | k + 1, h => by
    have eo := (cTL_o (cT3 c lp k) (lp k)).2.2.1
    rw [cT3, nth]
    by_cases e : gd c lp k = true ∧ gN c lp k = n
    · rw [if_pos e, if_pos ⟨e.1, by omega⟩, cA_A, if_pos rfl, if_pos rfl, upd_at, if_pos e.2.symm]
    · rw [if_neg e]
      have hk : n < gN c lp k := by
        rw [gN] at h
        by_cases g : gd c lp k = true
        · rw [if_pos g] at h
          have : gN c lp k ≠ n := fun z => e ⟨g, z⟩
          omega
        · rw [if_neg g] at h; omega
      have ih := cT3_A c lp hn k hk
      by_cases e2 : gd c lp k = true ∧ gN c lp k < 64
      · rw [if_pos e2, cA_A, if_pos rfl, if_pos rfl, upd_at, if_neg (by omega), eo]; exact ih
      · rw [if_neg e2, eo]; exact ih
theorem Dat.test {c : CC} {lp : Nat → Nat} (hl : LWf c lp) (hg : 64 ≤ gN c lp 69) {d : Nat → Int64} (hd : ∀ p, p < 101 → d p = 0) : Dat (cTest c lp) lp (nth c lp 69) d := by
  intro k hk
  have hn := nth_ok c lp (n := k) 69 (by omega)
  have ho := cT3_o c lp 69
  refine ⟨cT3_A c lp hk 69 (by omega), hn.1, ?_, fun k' hk' e => ?_, fun p hp => ?_⟩
  · show cN (cT3 c lp 69) 16 _ = 0
    rw [ho.2.2.2]; have := hn.2.1; unfold gd at this; simpa using this
  · have h' := nth_ok c lp (n := k') 69 (by omega)
    rw [← hn.2.2, ← h'.2.2, e]
  · show lB (cJ (cT3 c lp 69) 16 _) p = _
    rw [cT3_J c lp 69 (fun k k' hk hk' e => (hl k hk).2.2.2 k' hk' e) hn.1 hp 69 (Nat.le_refl _) hn.1, hd p hp, bB_0]
