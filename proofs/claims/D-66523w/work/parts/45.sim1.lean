/-! chip and power: the component against the model; by hand, through tools/m45.py -/
theorem Dat.ofS {c c' : CC} {lp mp : Nat → Nat} {d d' : Nat → Int64} (h : Dat c lp mp d) (eA : cA c' = cA c) (eN : cN c' = cN c) (eJ : cJ c' = cJ c) (ed : d' = d) : Dat c' lp mp d' := by
  subst ed
  exact h.of (by rw [eA]) eN (by rw [eJ])
/-- chip and power agree -/
def R0 (c : CC) (lp : Nat → Nat) (g : MM) : Prop := LWf c lp ∧ (cI c 1 0 = mI g 1 ∧ B01 (mI g 1)) ∧ (∃ q, q < 101 ∧ cI c 2 0 = nI q ∧ mI g 2 = nI q) ∧ cL c 0 0 = mL g 0 ∧ cI c 3 0 = mI g 3 ∧ (cI c 4 0 = mI g 4 ∧ B01 (mI g 4)) ∧ (∀ k, k < 69 → (cN c 16 (lp k) = 0 ↔ mA g 1 k = 0)) ∧ (mI g 1 = 1 → ∃ mp, Dat c lp mp (mJ g 2))
/-- R0 looks at these cells only -/
theorem R0.of {c c' : CC} {lp : Nat → Nat} {g g' : MM} (h : R0 c lp g) (eR : cR c' 4 = cR c 4) (eN : cN c' 15 = cN c 15 ∧ cN c' 16 = cN c 16) (eI : ∀ k, k = 1 ∨ k = 2 ∨ k = 3 ∨ k = 4 ∨ k = 9 → cI c' k = cI c k) (eL : cL c' 0 = cL c 0) (eA : cA c' 5 = cA c 5) (eJ : cJ c' 16 = cJ c 16)
    (fI : ∀ k, k = 1 ∨ k = 2 ∨ k = 3 ∨ k = 4 → mI g' k = mI g k) (fL : mL g' 0 = mL g 0) (fA : mA g' 1 = mA g 1) (fJ : mJ g' 2 = mJ g 2) : R0 c' lp g' := by
  obtain ⟨h1, h2, h3, h4, h5, h6, h7, h8⟩ := h
  refine ⟨?_, ?_, ?_, ?_, ?_, ?_, ?_, ?_⟩
  · intro k hk
    have z := h1 k hk
    rw [eR, eN.1, eN.2, eI 9 (by simp)]; exact z
  · rw [eI 1 (by simp), fI 1 (by simp)]; exact h2
  · rw [eI 2 (by simp), fI 2 (by simp)]; exact h3
  · rw [eL, fL]; exact h4
  · rw [eI 3 (by simp), fI 3 (by simp)]; exact h5
  · rw [eI 4 (by simp), fI 4 (by simp)]; exact h6
  · intro k hk; rw [eN.2, fA]; exact h7 k hk
  · intro e
    rw [fI 1 (by simp)] at e
    obtain ⟨mp, hD⟩ := h8 e
    refine ⟨mp, fun k hk => ?_⟩
    rw [eA, eN.2, eJ, fJ]; exact hD k hk
theorem far_nat {p q : Nat} (hp : p < 101) (hq : q < 101) : nI p + 101 - nI q - (nI p + 101 - nI q) / 101 * 101 = nI ((p + 101 - q) % 101) := by
  rw [show (101 : Int32) = nI 101 from rfl, nI_add, pk_sub (by omega), pk_rem (by omega) (by omega) (by omega)]
theorem far_c {p q : Nat} (hp : p < 101) (hq : q < 101) : (if 0 ≤ nI p - nI q then nI p - nI q else nI p - nI q + 101) = nI ((p + 101 - q) % 101) := by
  by_cases h : q ≤ p
  · rw [pk_sub h, if_pos (nI_pos' (by omega)), show (p + 101 - q) % 101 = p - q by omega]
  · have e : nI p - nI q = -nI (q - p) := by
      have z : nI q = nI (q - p) + nI p := by rw [nI_add, show q - p + p = q by omega]
      rw [z, Int32.sub_eq_add_neg, Int32.neg_add, Int32.sub_eq_add_neg, Int32.add_comm (-nI (q - p)), ← Int32.add_assoc, Int32.add_right_neg, Int32.zero_add]
    have e2 : ¬ 0 ≤ nI p - nI q := by
      rw [e]
      have : ∀ k : Fin 101, 0 < k.1 → ¬ (0 : Int32) ≤ -nI k.1 := by decide +kernel
      exact this ⟨q - p, by omega⟩ (by show 0 < q - p; omega)
    have e3 : nI p - nI q + 101 = nI (p + 101 - q) := by
      rw [e, show (101 : Int32) = nI (101 - (q - p)) + nI (q - p) from by rw [nI_add, show 101 - (q - p) + (q - p) = 101 by omega]; rfl, Int32.add_comm, Int32.add_assoc, Int32.add_right_neg, Int32.add_zero, show 101 - (q - p) = p + 101 - q by omega]
    rw [if_neg e2, e3, show (p + 101 - q) % 101 = p + 101 - q by omega]
theorem R0.turn {c : CC} {lp : Nat → Nat} {g : MM} (h : R0 c lp g) {p : Nat} (hp : p < 101) : R0 (cTurn c (nI p)) lp (mTurn g (nI p)) := by
  obtain ⟨h1, h2, ⟨q, hq, e1, e2⟩, h4, h5, h6, h7, h8⟩ := h
  refine ⟨h1.of rfl rfl rfl, h2, ⟨p, hp, rfl, rfl⟩, ?_, h5, h6, h7, fun e => ?_⟩
  · show cL c 0 0 + (if 0 ≤ nI p - cI c 2 0 then nI p - cI c 2 0 else nI p - cI c 2 0 + 101).toInt64 = mL g 0 + (nI p + 101 - mI g 2 - (nI p + 101 - mI g 2) / 101 * 101).toInt64
    rw [h4, e1, e2, far_c hp hq, far_nat hp hq]
  · obtain ⟨mp, hD⟩ := h8 e
    exact ⟨mp, hD.of rfl rfl rfl⟩
theorem R0.spend {c : CC} {lp : Nat → Nat} {g : MM} (h : R0 c lp g) (ho : ¬ mI g 4 = 0) : R0 (cSpd c) lp (mSpend g) := by
  obtain ⟨h1, h2, h3, h4, h5, h6, h7, h8⟩ := h
  refine ⟨h1.of rfl rfl rfl, h2, h3, h4, ?_, ?_, h7, fun e => ?_⟩
  · show (if cI c 3 0 ≤ 0 then cI c 3 0 else cI c 3 0 - 1) = (if mI g 3 ≤ 0 then mI g 3 else mI g 3 - 1)
    rw [h5]
  · refine ⟨?_, h6.2⟩
    show (1 : Int32) = mI g 4
    rcases h6.2 with z | z
    · exact absurd z ho
    · exact z.symm
  · obtain ⟨mp, hD⟩ := h8 e
    exact ⟨mp, hD.of rfl rfl rfl⟩
/-- there is power for a transfer -/
def PW (g : MM) : Prop := ¬ mI g 4 = 0 ∧ ¬ mI g 3 = 0
theorem mGo1_pw {g : MM} (h : PW g) : mGo1 g = g := by unfold mGo1; rw [if_neg h.2]
theorem mGoes_pw {g : MM} (h : PW g) (x : Int32) : mGoes g x = mTurn (mSpend g) x := by unfold mGoes; rw [mGo1_pw h, if_neg h.1]
theorem mGoesR_pw {g : MM} (h : PW g) : mGoesR g = 1 := by unfold mGoesR; rw [mGo1_pw h, if_neg h.1]
theorem mWrite_pw {g : MM} (h : PW g) (p : Nat) (v : Int64) : mWrite g p v = mSJ (mTurn (mSpend g) (nI p)) 2 p v := by
  unfold mWrite; rw [if_neg h.1, mGoesR_pw h, if_neg (by decide), mGoes_pw h]
theorem mRead_pw {g : MM} (h : PW g) (p : Nat) : mRead g p = mTurn (mSpend g) (nI p) ∧ mReadR g p = mJ g 2 p := by
  unfold mRead mReadR; rw [if_neg h.1, if_neg h.1, mGoesR_pw h, if_neg (by decide), mGoes_pw h]; exact ⟨rfl, rfl⟩
theorem mGo1_no {g : MM} (h : mI g 3 = 0) : mGo1 g = smI g 4 0 := by unfold mGo1; rw [if_pos h]
theorem mGoes_no {g : MM} (h : mI g 3 = 0) (x : Int32) : mGoes g x = smI g 4 0 := by unfold mGoes; rw [mGo1_no h, if_pos (show mI (smI g 4 0) 4 = 0 from rfl)]
theorem mWrite_no {g : MM} (ho : ¬ mI g 4 = 0) (h : mI g 3 = 0) (p : Nat) (v : Int64) : mWrite g p v = smI g 4 0 := by
  unfold mWrite; rw [if_neg ho, if_pos (by unfold mGoesR; rw [mGo1_no h]; rfl), mGoes_no h]
theorem mRead_no {g : MM} (ho : ¬ mI g 4 = 0) (h : mI g 3 = 0) (p : Nat) : mRead g p = smI g 4 0 := by
  unfold mRead; rw [if_neg ho, mGoes_no h]
theorem mWrite_off {g : MM} (ho : mI g 4 = 0) (p : Nat) (v : Int64) : mWrite g p v = g := by unfold mWrite; rw [if_pos ho]
theorem mRead_off {g : MM} (ho : mI g 4 = 0) (p : Nat) : mRead g p = g := by unfold mRead; rw [if_pos ho]
theorem R0.off {c : CC} {lp : Nat → Nat} {g : MM} (h : R0 c lp g) : R0 (cOff c) lp (smI g 4 0) := by
  obtain ⟨h1, h2, h3, h4, h5, h6, h7, h8⟩ := h
  refine ⟨h1.of rfl rfl rfl, h2, h3, h4, h5, ⟨rfl, .inl rfl⟩, h7, fun e => ?_⟩
  obtain ⟨mp, hD⟩ := h8 e
  exact ⟨mp, hD.of rfl rfl rfl⟩
theorem R0.write {c : CC} {lp mp : Nat → Nat} {g : MM} (h : R0 c lp g) (hD : Dat c lp mp (mJ g 2)) {p : Nat} (hp : p < 101) (v : Int64) : R0 (cWrN c lp mp p v 64) lp (mSJ g 2 p v) := by
  have hW := hD.write h.1 hp v
  have ho := cWrN_o c lp mp p v 64
  generalize cWrN c lp mp p v 64 = x at hW ho ⊢
  obtain ⟨h1, h2, h3, h4, h5, h6, h7, h8⟩ := h
  refine ⟨h1.of ho.2.2.2.1 ho.2.2.2.2 (by rw [ho.1]), ?_, ?_, ?_, ?_, ?_, ?_, fun _ => ⟨mp, hW⟩⟩
  · rw [ho.1]; exact h2
  · rw [ho.1]; exact h3
  · rw [ho.2.1]; exact h4
  · rw [ho.1]; exact h5
  · rw [ho.1]; exact h6
  · rw [ho.2.2.2.2]; exact h7
