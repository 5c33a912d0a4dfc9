/-! the JDK: grow; printed by tools/m53.py -/
theorem imx_n {y z : Nat} (hy : y < 1000) (hz : z < 1000) : imx (nI y) (nI z) = nI (max y z) := by
  unfold imx
  by_cases h : y < z
  · rw [if_pos (nI_lt h (by omega)), show max y z = z by omega]
  · rw [if_neg (nI_nlt (by omega) (by omega)), show max y z = y by omega]
theorem nI_shr1 {n : Nat} (h : n < 101) : nI n >>> (1 &&& 31) = nI (n / 2) := by
  have : ∀ q : Fin 101, nI q.1 >>> (1 &&& 31) = nI (q.1 / 2) := by decide +kernel
  exact this ⟨n, h⟩
/-- what is left of the elements, in a bigger array -/
def keep (c : CC) (i : Nat) : Nat → Option Nat := fun j => if j < cN c 14 i then cR c 14 i j else none
theorem keep_eq (a : AD) (c : CC) (i : Nat) : va_cpy (elF a c i) (fun _ => none) 0 0 (cN c 14 i) = fun j => (keep c i j).map (a 19) := by
  funext j
  unfold va_cpy elF keep
  by_cases h : j < cN c 14 i
  · rw [if_pos ⟨Nat.zero_le _, by omega⟩, if_pos h]; simp
  · rw [if_neg (fun z => h (by omega)), if_neg h]; rfl
def gro (c : CC) (i N : Nat) (h : Nat → Option Nat) : CC := sR (sN c 14 i N) 14 i h
theorem aw_fold {E : EE} {b : Bool} {cells slots pc : Nat} {a : AD} {c : CC} {m : MM} {o : OO} {i N q : Nat} {h : Nat → Option Nat} {lv : List (Nat × Value)} {st : List Value} (hi : i < 2) (hN : ¬ N = 0)
    (k : AW E b cells slots (wld (eG E) (up2 a 14 i q) (gro c i N h) m o) pc lv st) : AW E b cells slots (upW (upW (wld (eG E) a c m o) 29 0 (q, .inl (gA (eG E) 6, N, .inr (.inr (.inr (.inr (fun j => (h j).map (a 19)))))))) 13 i (a 13 i, .inr (10, [.ref q, .int (cI c 8 i), .int (cI c 7 i)]))) pc lv st := by
  have hn : ∀ k, cntC (gro c i N h) k = cntC c k := fun k => by unfold cntC; split <;> rfl
  refine AW.ren (fun k i' => if k = 14 ∧ i' = i then (29, 0) else (k, i')) ?_ ?_ k
  · intro k i' Q e
    by_cases h14 : k = 14 ∧ i' = i
    · obtain ⟨rfl, rfl⟩ := h14
      rw [if_pos ⟨rfl, rfl⟩, upW_ne _ _ (fun z => absurd z.1 (by decide)), upW_self]
      rw [← e, cC_at (k := 14) (by decide) (by rw [hn]; exact hi) (q := (q, .inl (gA (eG E) 6, N, .inr (.inr (.inr (.inr (fun j => (h j).map (a 19)))))))) ]
      simp [celC, gro, sR, sN, cN, cR, up2, hN]
      rfl
    · rw [if_neg h14]
      by_cases h13 : k = 13 ∧ i' = i
      · obtain ⟨rfl, rfl⟩ := h13
        rw [upW_self, ← e, cC_at (k := 13) (by decide) (by rw [hn]; exact hi) (q := (a 13 i', .inr (10, [.ref q, .int (cI c 8 i'), .int (cI c 7 i')])))]
        simp [celC, elA, gro, sR, sN, cN, cI, up2, hN]
      · rw [upW_ne _ _ h13]
        have h29 : ¬ (k = 29 ∧ i' = 0) := by
          rintro ⟨rfl, rfl⟩; rw [w29] at e; cases e
        rw [upW_ne _ _ h29, ← e]
        unfold wld
        by_cases hk : k < 30
        · rw [if_pos hk, if_pos hk, hn]
          by_cases hc : i' < cntC c k
          · rw [if_pos hc, if_pos hc]
            unfold celC
            split <;> first | rfl | (have h9 : ¬ i' = i := fun z => h14 ⟨rfl, z⟩; simp [gro, sR, sN, cN, cR, elA, up2, h9] <;> rfl) | (have h9 : ¬ i' = i := fun z => h13 ⟨rfl, z⟩; simp [gro, sR, sN, cN, cR, cI, elA, up2, h9] <;> rfl)
          · rw [if_neg hc, if_neg hc]
        · rw [if_neg hk, if_neg hk]
          by_cases h0 : i' = 0
          · rw [if_pos h0, if_pos h0]; unfold celM; split <;> rfl
          · rw [if_neg h0, if_neg h0]
  · intro k i1 k' i2 e1 e2 z
    have f29 : ∀ k i', wld (eG E) (up2 a 14 i q) (gro c i N h) m o k i' ≠ none → (29, 0) ≠ (k, i') := by
      intro k i' e z; cases z; exact e w29
    by_cases x1 : k = 14 ∧ i1 = i
    · rw [if_pos x1] at z
      by_cases x2 : k' = 14 ∧ i2 = i
      · exact ⟨x1.1.trans x2.1.symm, x1.2.trans x2.2.symm⟩
      · rw [if_neg x2] at z; exact absurd z (f29 _ _ e2)
    · rw [if_neg x1] at z
      by_cases x2 : k' = 14 ∧ i2 = i
      · rw [if_pos x2] at z; exact absurd z.symm (f29 _ _ e1)
      · rw [if_neg x2] at z; cases z; exact ⟨rfl, rfl⟩
