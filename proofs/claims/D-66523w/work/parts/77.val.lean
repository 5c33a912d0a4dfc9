/-! values that both answer; create, save, hold -/
theorem num_eq {c : CC} {g : MM} {fo : Nat → Option Nat} {L : Nat → Nat} {ch : Nat → Nat → Nat} (h : RFs c g fo L ch) (x : Int32) : ∀ s, s ≤ 8 → ∀ r, cNumD c fo x s r = mNumD g x s r
  | 0, _, _ => rfl
  | s + 1, hs, r => by
    have hf := h s (by omega)
    rw [cNumD, mNumD, num_eq h x s (by omega)]
    refine congrArg _ ?_
    unfold cNm
    cases e : fo s with
    | none => rw [if_pos (hf.1 e).1]
    | some j =>
      have z := (hf.2 j e).1
      rw [if_neg z.1]
      simp only [z.2.1]
theorem R1.num {c : CC} {g : MM} {fo : Nat → Option Nat} {L : Nat → Nat} {ch : Nat → Nat → Nat} (h : R1 c g fo L ch) (x : Int32) : cNum c fo x = mNum g x := num_eq h.2.2.1 x 8 (Nat.le_refl _) (-1)
theorem R1.free {c : CC} {g : MM} {fo : Nat → Option Nat} {L : Nat → Nat} {ch : Nat → Nat → Nat} (h : R1 c g fo L ch) {p : Nat} (hp : p < 101) : cFree c p = mFree g L p := by
  obtain ⟨h1, h2, -⟩ := h.2.2.2.2.2 p hp
  unfold cFree mFree
  rw [h1, h2]
  cases mUsed g L (nI p) <;> simp [bI]
theorem R1.least {c : CC} {g : MM} {fo : Nat → Option Nat} {L : Nat → Nat} {ch : Nat → Nat → Nat} (h : R1 c g fo L ch) : ∀ n k, k + n ≤ 101 → cLeast c n k = mLeast g L n k
  | 0, _, _ => rfl
  | n + 1, k, hk => by rw [cLeast, mLeast, h.free (by omega), R1.least h n (k + 1) (by omega)]
theorem R1.frN {c : CC} {g : MM} {fo : Nat → Option Nat} {L : Nat → Nat} {ch : Nat → Nat → Nat} (h : R1 c g fo L ch) : ∀ t, t ≤ 101 → cFrN c t = mFrN g L t
  | 0, _ => rfl
  | t + 1, ht => by
    rw [cFrN, mFrN, h.free (by omega), R1.frN h t (by omega)]
    cases mFree g L t
    · rw [if_neg (by decide)]; exact Int32.add_zero _
    · rw [if_pos rfl]; rfl
/-- the least free page is one -/
theorem least_ok {g : MM} {L : Nat → Nat} : ∀ n k, k + n ≤ 101 → mLeast g L n k = -1 ∨ ∃ p, k ≤ p ∧ p < k + n ∧ mLeast g L n k = nI p ∧ mFree g L p = true
  | 0, _, _ => .inl rfl
  | n + 1, k, hk => by
    rw [mLeast]
    by_cases e : mFree g L k = true
    · rw [if_pos e]; exact .inr ⟨k, by omega, by omega, rfl, e⟩
    · rw [if_neg e]
      rcases least_ok (g := g) (L := L) n (k + 1) (by omega) with z | ⟨p, a, b, z, y⟩
      · exact .inl z
      · exact .inr ⟨p, by omega, by omega, z, y⟩
/-- a new file -/
theorem R1.crt {c : CC} {g g' : MM} {fo : Nat → Option Nat} {L : Nat → Nat} {ch : Nat → Nat → Nat} {s : Nat} {x : Int32} (h : R1 c g fo L ch) (hs : s < 8) (h0 : fo s = none) (hx : ¬ x = 0)
    (f3 : mA g' 3 = upd (mA g 3) s x) (f4 : mA g' 4 = upd (mA g 4) s 0) (f6 : mA g' 6 = upd (mA g 6) s (-1)) (f8 : mA g' 8 = upd (mA g 8) s 0) (f5 : mA g' 5 = mA g 5) (f9 : mA g' 9 = mA g 9) (fJ : mJ g' 7 = mJ g 7) : R1 (sR (newF c x) 6 0 (rup (cR c 6 0) s (some (cN c 17 0)))) g' (rup fo s (some (cN c 17 0))) L ch := by
  obtain ⟨h1, h2, h3, h4, h5⟩ := h
  have hL0 := ((h3 s hs).1 h0).2.1
  have hne : ∀ f j, f < 8 → fo f = some j → j ≠ cN c 17 0 := fun f j hf e => Nat.ne_of_lt ((h1 f hf).2 j e)
  refine ⟨fun f hf => ?_, fun f1 f2 j a b d e => ?_, fun f hf => ⟨fun e => ?_, fun j hj => ?_⟩, ⟨fun f hf => ?_, h4.2.1.of f5, h4.2.2⟩, h5.of (fun k _ _ => rfl) f5 f9⟩
  · have z := h1 f hf
    rw [show cR (sR (newF c x) 6 0 (rup (cR c 6 0) s (some (cN c 17 0)))) 6 0 = rup (cR c 6 0) s (some (cN c 17 0)) from rfl, show cN (sR (newF c x) 6 0 (rup (cR c 6 0) s (some (cN c 17 0)))) 17 0 = cN c 17 0 + 1 from rfl, rup_at, rup_at]
    by_cases y : f = s
    · rw [if_pos y, if_pos y]; exact ⟨rfl, fun j e => by cases e; omega⟩
    · rw [if_neg y, if_neg y]; exact ⟨z.1, fun j e => Nat.lt_succ_of_lt (z.2 j e)⟩
  · rw [rup_at] at d e
    by_cases y1 : f1 = s
    · by_cases y2 : f2 = s
      · rw [y1, y2]
      · rw [if_pos y1] at d; rw [if_neg y2] at e; cases d; exact absurd rfl (hne f2 _ b e)
    · rw [if_neg y1] at d
      by_cases y2 : f2 = s
      · rw [if_pos y2] at e; cases e; exact absurd rfl (hne f1 _ a d)
      · rw [if_neg y2] at e; exact h2 f1 f2 j a b d e
  · rw [rup_at] at e
    by_cases y : f = s
    · rw [if_pos y] at e; cases e
    · rw [if_neg y] at e
      rw [f3, f8, upd_at, upd_at, if_neg y, if_neg y]; exact (h3 f hf).1 e
  · rw [rup_at] at hj
    by_cases y : f = s
    · rw [if_pos y] at hj; cases hj
      subst y
      refine ⟨⟨by rw [f3, upd_at, if_pos rfl]; exact hx, ?_, ?_, ?_⟩, ?_, ?_, by rw [f8, upd_at, if_pos rfl]; exact .inl rfl, fun z => absurd (by rw [f6, upd_at, if_pos rfl]) z, fun z => absurd (by rw [f8, upd_at, if_pos rfl]) z⟩
      · rw [f3, upd_at, if_pos rfl]; simp [newF, cI, sI, sL, sN, sR, cN, up2]
      · rw [hL0]; simp [newF, cI, sI, sL, sN, sR, cN, up2]; rfl
      · rw [hL0]; simp [newF, cI, sI, sL, sN, sR, cN, up2, pg]
      · rw [f6, upd_at, if_pos rfl]; simp [newF, cI, sI, sL, sN, sR, cN, up2]
      · rw [f8, upd_at, if_pos rfl]; simp [newF, cI, sI, sL, sN, sR, cN, up2]
    · rw [if_neg y] at hj
      have hj2 := hne f j hf hj
      obtain ⟨a, b⟩ := (h3 f hf).2 j hj
      have eI : ∀ k, cI (sR (newF c x) 6 0 (rup (cR c 6 0) s (some (cN c 17 0)))) k j = cI c k j := fun k => by
        have hj3 : ¬ j = c.2.2.2.2.2 17 0 := hj2
        simp [newF, cI, sI, sL, sN, sR, cN, up2, hj3]
      have eL : cL (sR (newF c x) 6 0 (rup (cR c 6 0) s (some (cN c 17 0)))) 1 j = cL c 1 j := by
        have hj3 : ¬ j = c.2.2.2.2.2 17 0 := hj2
        simp [newF, cL, sI, sL, sN, sR, cN, up2, hj3]
      unfold RE RW at *
      rw [f3, f6, f8, fJ, upd_at, upd_at, upd_at, if_neg y, if_neg y, if_neg y, eI, eI, eI, eI, eI, eL]
      exact ⟨a, b⟩
  · rw [f4, upd_at]
    by_cases y : f = s
    · rw [if_pos y, y, hL0]; exact ⟨rfl, by omega⟩
    · rw [if_neg y]; exact h4.1 f hf
/-- held is used -/
theorem cHoldN_9 (c : CC) (x : Nat) : ∀ t, cA (cHoldN c t) 9 0 x = if x < t then cA c 8 0 x else cA c 9 0 x
  | 0 => by rw [if_neg (Nat.not_lt_zero _)]; rfl
  | t + 1 => by
    have e8 : cA (cHoldN c t) 8 = cA c 8 := by
      induction t with
      | zero => rfl
      | succ t ih => exact ih
    rw [cHoldN, cA_A, if_pos rfl, if_pos rfl, upd_at, cHoldN_9 c x t, e8]
    by_cases e : x = t
    · rw [if_pos e, if_pos (by omega), e]
    · rw [if_neg e]
      by_cases z : x < t
      · rw [if_pos z, if_pos (by omega)]
      · rw [if_neg z, if_neg (by omega)]
theorem cHoldN_o (c : CC) (t : Nat) : cI (cHoldN c t) = cI c ∧ cL (cHoldN c t) = cL c ∧ cR (cHoldN c t) = cR c ∧ cN (cHoldN c t) = cN c ∧ cJ (cHoldN c t) = cJ c ∧ ∀ k, k ≠ 9 → cA (cHoldN c t) k = cA c k := by
  induction t with
  | zero => exact ⟨rfl, rfl, rfl, rfl, rfl, fun _ _ => rfl⟩
  | succ t ih => exact ⟨ih.1, ih.2.1, ih.2.2.1, ih.2.2.2.1, ih.2.2.2.2.1, fun k hk => by rw [← ih.2.2.2.2.2 k hk]; funext i; rw [cHoldN, cA_A, if_neg hk]⟩
theorem mHoldN_o (g : MM) (L : Nat → Nat) (t : Nat) : mI (mHoldN g L t) = mI g ∧ mL (mHoldN g L t) = mL g ∧ mJ (mHoldN g L t) = mJ g ∧ ∀ k, k ≠ 9 → mA (mHoldN g L t) k = mA g k := by
  induction t with
  | zero => exact ⟨rfl, rfl, rfl, fun _ _ => rfl⟩
  | succ t ih => exact ⟨ih.1, ih.2.1, ih.2.2.1, fun k hk => by rw [← ih.2.2.2 k hk, mHoldN, mS, mA_A, if_neg hk]⟩
theorem mHoldN_9 (g : MM) (L : Nat → Nat) (x : Nat) : ∀ t, mA (mHoldN g L t) 9 x = if x < t then bI (mUsed g L (nI x)) else mA g 9 x
  | 0 => by rw [if_neg (Nat.not_lt_zero _)]; rfl
  | t + 1 => by
    rw [mHoldN, mS, mA_A, if_pos rfl, upd_at, mHoldN_9 g L x t, mUsed_cg ((mHoldN_o g L t).2.2.2 5 (by decide))]
    by_cases e : x = t
    · rw [if_pos e, if_pos (by omega), e]
    · rw [if_neg e]
      by_cases z : x < t
      · rw [if_pos z, if_pos (by omega)]
      · rw [if_neg z, if_neg (by omega)]
theorem R1.hold {c : CC} {g : MM} {fo : Nat → Option Nat} {L : Nat → Nat} {ch : Nat → Nat → Nat} (h : R1 c g fo L ch) : R1 (cHoldN c 101) (mHoldN g L 101) fo L ch := by
  have hc := cHoldN_o c 101
  have hm := mHoldN_o g L 101
  have h9 := fun x => cHoldN_9 c x 101
  have m9 := fun x => mHoldN_9 g L x 101
  generalize cHoldN c 101 = c1 at hc h9 ⊢
  generalize mHoldN g L 101 = g1 at hm m9 ⊢
  obtain ⟨h1, h2, h3, h4, h5⟩ := h
  refine ⟨fun f hf => ?_, h2, fun f hf => ?_, h4.of (hm.2.2.2 4 (by decide)) (hm.2.2.2 5 (by decide)), ⟨by rw [hc.2.2.2.2.2 7 (by decide)]; exact h5.1, fun p hp => ⟨?_, ?_, ?_⟩⟩⟩
  · rw [hc.2.2.1, hc.2.2.2.1]; exact h1 f hf
  · unfold RE RW; rw [hc.1, hc.2.1, hm.2.2.2 3 (by decide), hm.2.2.2 6 (by decide), hm.2.2.2 8 (by decide), hm.2.2.1]; exact h3 f hf
  · rw [hc.2.2.2.2.2 8 (by decide), mUsed_cg (hm.2.2.2 5 (by decide))]; exact (h5.2 p hp).1
  · rw [h9, m9, if_pos hp, if_pos hp]; exact (h5.2 p hp).1
  · rw [m9, if_pos hp]; exact bI_bz _
/-- a window is saved -/
theorem R1.s14 {c : CC} {g : MM} {fo : Nat → Option Nat} {L : Nat → Nat} {ch : Nat → Nat → Nat} {f j : Nat} (h : R1 c g fo L ch) (hf : f < 8) (hj : fo f = some j) : R1 (sI c 14 j 0) (mS g 8 f 0) fo L ch := by
  obtain ⟨a1, a2, a3, a4, a5⟩ := ((h.2.2.1 f hf).2 j hj).2
  have z8 : mA (mS g 8 f 0) 8 f = 0 := by rw [mS, mA_A, if_pos rfl, upd_at, if_pos rfl]
  refine h.win hf hj rfl rfl (fun k _ h2 => by funext i; rw [cI_I, if_neg (by omega)]) (fun k i _ _ h3 => by rw [cI_I, if_neg h3]; split <;> rfl) (fun _ _ => rfl) (fun _ _ _ => rfl) (fun k hk => by rw [mS, mA_A, if_neg (by omega)]) (fun k f' hk hne => ?_) (fun _ _ => rfl) ⟨?_, ?_, ?_, ?_, ?_⟩
  · rw [mS, mA_A]
    split
    · next z => rw [upd_at, if_neg hne, z]
    · rfl
  · rw [cI_I, if_neg (by decide), a1, mS, mA_A, if_neg (by decide)]
  · rw [cI_I, if_pos rfl, if_pos rfl, z8]
  · rw [z8]; exact .inl rfl
  · rw [mS, mA_A, if_neg (by decide)]; exact a4
  · exact fun z => absurd z8 z
