/-! a byte comes to a file -/
theorem pg_same {L L' : Nat → Nat} (g : MM) (p : Int32) (h : ∀ f, f < 8 → pg (L' f) = pg (L f)) : mUsed g L' p = mUsed g L p := by
  rw [Bool.eq_iff_iff, mUsed_iff, mUsed_iff]
  constructor
  · rintro ⟨f, i, hf, hi, e⟩; exact ⟨f, i, hf, by rw [← h f hf]; exact hi, e⟩
  · rintro ⟨f, i, hf, hi, e⟩; exact ⟨f, i, hf, by rw [h f hf]; exact hi, e⟩
theorem R1.app0 {c c' : CC} {g g' : MM} {fo : Nat → Option Nat} {L : Nat → Nat} {ch : Nat → Nat → Nat} {f j : Nat} (h : R1 c g fo L ch) (hf : f < 8) (hj : fo f = some j) (h8 : L f % 8 ≠ 0)
    (eR : cR c' 6 = cR c 6) (eN : cN c' 17 = cN c 17) (eI : ∀ k i, 10 ≤ k → k ≤ 14 → i ≠ j → cI c' k i = cI c k i) (eL : ∀ i, i ≠ j → cL c' 1 i = cL c 1 i) (e10 : cI c' 10 j = cI c 10 j) (e11 : cI c' 11 j = cI c 11 j) (e12 : cI c' 12 j = cI c 12 j + 1) (eA : ∀ k, 7 ≤ k → k ≤ 9 → cA c' k = cA c k)
    (f3 : mA g' 3 = mA g 3) (f4 : mA g' 4 = upd (mA g 4) f (mA g 4 f + 1)) (f5 : mA g' 5 = mA g 5) (f9 : mA g' 9 = mA g 9) (fA : ∀ k f', k = 6 ∨ k = 8 → f' ≠ f → mA g' k f' = mA g k f') (fJ : ∀ f', f' ≠ f → mJ g' 7 f' = mJ g 7 f') (hW : RW c' g' j f) : R1 c' g' fo (LnP L f (L f + 1)) ch := by
  obtain ⟨a1, a2, a3, a4⟩ := ((h.2.2.1 f hf).2 j hj).1
  obtain ⟨hM, hC, hI⟩ := h.2.2.2.1
  obtain ⟨hX, hU⟩ := h.2.2.2.2
  have hpf : pg (L f + 1) = pg (L f) := by unfold pg; omega
  have hpg : ∀ f', pg (LnP L f (L f + 1) f') = pg (L f') := fun f' => by
    by_cases z : f' = f
    · subst z; rw [LnP_i, hpf]
    · rw [LnP_f z]
  refine h.chg hf hj eR eN eI eL (fun k f' hk hne => ?_) fJ (fun f' hne => LnP_f hne) (fun _ _ _ => rfl) ⟨by rw [f3]; exact a1, by rw [e10, f3]; exact a2, ?_, ?_⟩ hW ⟨fun f' hf' => ?_, fun f' i hf' hi => ?_, fun f1 i1 f2 i2 h1 h2 h3 h4 e => ?_⟩ ⟨⟨fun f' i hf' hi => ?_, fun p hp hno => ?_⟩, fun x hx => ⟨?_, ?_⟩⟩
  · rcases hk with rfl | hk
    · rw [f3]
    · exact fA k f' hk hne
  · rw [e12, a3, LnP_i, nI_1]
  · rw [e11, a4, hpg]
  · rw [f4, upd_at]
    by_cases z : f' = f
    · subst z
      have := (hM f' hf').2
      rw [if_pos rfl, LnP_i, (hM f' hf').1, nI_1]; exact ⟨rfl, by omega⟩
    · rw [if_neg z, LnP_f z]; exact hM f' hf'
  · rw [f5]; exact hC f' i hf' (by rw [← hpg]; exact hi)
  · exact hI f1 i1 f2 i2 h1 h2 (by rw [← hpg]; exact h3) (by rw [← hpg]; exact h4) e
  · rw [eA 7 (by omega) (by omega)]; rw [hpg] at hi; exact hX.1 f' i hf' hi
  · rw [eA 7 (by omega) (by omega)]; exact hX.2 p hp (fun f' i hf' hi => hno f' i hf' (by rw [hpg]; exact hi))
  · rw [eA 8 (by omega) (by omega), pg_same _ _ (fun f' _ => hpg f'), mUsed_cg f5]; exact (hU x hx).1
  · rw [eA 9 (by omega) (by omega), f9]; exact (hU x hx).2
theorem R1.appP {c c' : CC} {g g' : MM} {fo : Nat → Option Nat} {L : Nat → Nat} {ch : Nat → Nat → Nat} {f j p : Nat} (h : R1 c g fo L ch) (hf : f < 8) (hj : fo f = some j) (hp : 40 ≤ p ∧ p < 101) (hu : mUsed g L (nI p) = false)
    (eR : cR c' 6 = cR c 6) (eN : cN c' 17 = cN c 17) (eI : ∀ k i, 10 ≤ k → k ≤ 14 → i ≠ j → cI c' k i = cI c k i) (eL : ∀ i, i ≠ j → cL c' 1 i = cL c 1 i) (e10 : cI c' 10 j = cI c 10 j) (e11 : cI c' 11 j = if L f / 8 = 0 then nI p else cI c 11 j) (e12 : cI c' 12 j = cI c 12 j + 1)
    (e7 : ∀ x, x < 101 → cA c' 7 0 x = if 0 < L f / 8 ∧ x = ch f (L f / 8 - 1) then nI p else if x = p then 0 else if pg (L f) = L f / 8 + 1 ∧ x = ch f (L f / 8) then 0 else cA c 7 0 x) (e8 : ∀ x, x < 101 → cA c' 8 0 x = if x = p then 1 else if pg (L f) = L f / 8 + 1 ∧ x = ch f (L f / 8) then 0 else cA c 8 0 x) (e9 : cA c' 9 = cA c 9)
    (f3 : mA g' 3 = mA g 3) (f4 : mA g' 4 = upd (mA g 4) f (mA g 4 f + 1)) (f5 : mA g' 5 = upd (mA g 5) (64 * f + L f / 8) (nI p)) (f9 : mA g' 9 = mA g 9) (fA : ∀ k f', k = 6 ∨ k = 8 → f' ≠ f → mA g' k f' = mA g k f') (fJ : ∀ f', f' ≠ f → mJ g' 7 f' = mJ g 7 f') (hW : RW c' g' j f) : R1 c' g' fo (LnP L f (L f + 1)) (chP ch f (L f / 8) p) := by
  obtain ⟨a1, a2, a3, a4⟩ := ((h.2.2.1 f hf).2 j hj).1
  obtain ⟨hM, hC, hI⟩ := h.2.2.2.1
  obtain ⟨hX, hU⟩ := h.2.2.2.2
  have hLf := (hM f hf).2
  have hn1 : L f / 8 ≤ pg (L f) := by unfold pg; omega
  have hn2 : pg (L f) ≤ L f / 8 + 1 := by unfold pg; omega
  have hn3 : pg (L f + 1) = L f / 8 + 1 := by unfold pg; omega
  have hr : ∀ f' i, f' < 8 → i < pg (L f') → ch f' i < 101 := fun f' i a b => (hC f' i a b).2.2
  have hfree : ∀ f' i, f' < 8 → i < pg (L f') → ch f' i ≠ p := fun f' i a b e => by
    have := (mUsed_ch hC hp.2).mpr ⟨f', i, a, b, e⟩
    rw [hu] at this; cases this
  have hLL : ∀ f', f' ≠ f → LnP L f (L f + 1) f' = L f' := fun f' z => LnP_f z
  have hL1 : pg (LnP L f (L f + 1) f) = L f / 8 + 1 := by rw [LnP_i]; exact hn3
  have hI' : CInj (LnP L f (L f + 1)) (chP ch f (L f / 8) p) := hI.put hLL hL1 hn1 hfree
  have hC' : MCh g' (LnP L f (L f + 1)) (chP ch f (L f / 8) p) := by
    intro f' i hf' hi
    rw [f5, upd_at]
    by_cases z : f' = f ∧ i = L f / 8
    · obtain ⟨rfl, rfl⟩ := z
      rw [if_pos rfl, chP_in]; exact ⟨rfl, hp⟩
    · have hi2 : i < pg (L f') := by
        by_cases y : f' = f
        · subst y
          rw [hL1] at hi
          have : i ≠ L f' / 8 := fun w => z ⟨rfl, w⟩
          omega
        · rw [hLL f' y] at hi; exact hi
      have h61 : pg (L f') ≤ 61 := pages_fit hI hf' (fun i hi => (hC f' i hf' hi).2)
      rw [if_neg (fun w => z (by omega)), chP, if_neg z]
      exact hC f' i hf' hi2
  have h61 : pg (LnP L f (L f + 1) f) ≤ 61 := pages_fit hI' hf (fun i hi => (hC' f i hf hi).2)
  refine h.chg hf hj eR eN eI eL (fun k f' hk hne => ?_) fJ hLL (fun f' i hne => chP_f hne) ⟨by rw [f3]; exact a1, by rw [e10, f3]; exact a2, ?_, ?_⟩ hW ⟨fun f' hf' => ?_, hC', hI'⟩ ⟨hX.put hI hf hLL hL1 hn1 hn2 hfree e7 hr, fun x hx => ⟨?_, ?_⟩⟩
  · rcases hk with rfl | hk
    · rw [f3]
    · exact fA k f' hk hne
  · rw [e12, a3, LnP_i, nI_1]
  · rw [e11, hL1, if_neg (show ¬ L f / 8 + 1 = 0 by omega)]
    by_cases z : L f / 8 = 0
    · rw [if_pos z, z, chP_in]
    · rw [if_neg z, chP_i (fun w => z w.symm), a4, if_neg (by omega)]
  · rw [f4, upd_at]
    by_cases z : f' = f
    · subst z
      rw [if_pos rfl, LnP_i, (hM f' hf').1, nI_1]
      refine ⟨rfl, ?_⟩
      rw [hL1] at h61; omega
    · rw [if_neg z, hLL f' z]; exact hM f' hf'
  · rw [e8 x hx, used_put hC hC' hI hf hLL hL1 hn1 hn2 hfree hx]
    split
    · rfl
    · split
      · rfl
      · exact (hU x hx).1
  · rw [e9, f9]; exact (hU x hx).2
