/-! forget, and an empty directory; by hand -/
theorem cClr_6 (c : CC) {i s z : Nat} (h : cR (cClr c) 6 i s = some z) : cR c 6 i s = some z := by
  have h1 : ∀ t, cR (cClrF c t) 6 i s = some z → cR c 6 i s = some z := fun t => by
    induction t with
    | zero => exact fun h => h
    | succ t ih =>
      intro h
      refine ih ?_
      rw [cClrF, cR_R, if_pos rfl] at h
      split at h
      · next e =>
        rw [rup_at] at h
        split at h
        · cases h
        · rw [e]; exact h
      · exact h
  have h2 : ∀ (c : CC) (t : Nat), cR (cClrP c t) = cR c := fun c t => by
    induction t with
    | zero => rfl
    | succ t ih => exact ih
  unfold cClr at h
  rw [h2] at h
  exact h1 8 h
theorem cForg_o (c : CC) (q qa : Nat) : cN (cForg c q qa) = cN c ∧ cL (cForg c q qa) = cL c ∧ cJ (cForg c q qa) = cJ c ∧ (∀ k, k ≠ 0 → k ≠ 7 → k ≠ 8 → cI (cForg c q qa) k = cI c k) ∧ cI (cForg c q qa) 0 0 = 0 ∧ (∀ i, i < 2 → cI (cForg c q qa) 8 i = 0) ∧ (∀ k, k ≠ 7 → k ≠ 8 → k ≠ 9 → cA (cForg c q qa) k = cA c k) ∧ (∀ k t, 7 ≤ k → k ≤ 9 → t < 101 → cA (cForg c q qa) k 0 t = 0) ∧ (∀ k, k ≠ 6 → k ≠ 14 → cR (cForg c q qa) k = cR c k) ∧ (∀ t, t < 8 → cR (cForg c q qa) 6 0 t = none) ∧ (∀ k i s z, k = 6 ∨ k = 14 → cR (cForg c q qa) k i s = some z → cR c k i s = some z) := by
  have a := cClr_o (sI c 0 0 0)
  have a6 := fun i s z => cClr_6 (sI c 0 0 0) (i := i) (s := s) (z := z)
  unfold cForg cForg1
  generalize cClr (sI c 0 0 0) = c1 at a a6 ⊢
  have b := cLClr_a (sI (sI c1 7 0 (cI c1 7 0 + 1)) 8 0 0) 0 q
  generalize cLClr (sI (sI c1 7 0 (cI c1 7 0 + 1)) 8 0 0) 0 q = c2 at b ⊢
  have d := cLClr_a (sI (sI c2 7 1 (cI c2 7 1 + 1)) 8 1 0) 1 qa
  generalize cLClr (sI (sI c2 7 1 (cI c2 7 1 + 1)) 8 1 0) 1 qa = c3 at d ⊢
  have eI : ∀ k i, k ≠ 7 → k ≠ 8 → cI c3 k i = cI (sI c 0 0 0) k i := fun k i h7 h8 => by
    rw [d.2.1, cI_I, if_neg h8, cI_I, if_neg h7, b.2.1, cI_I, if_neg h8, cI_I, if_neg h7, a.1]
  refine ⟨?_, ?_, ?_, fun k h0 h7 h8 => ?_, ?_, fun i hi => ?_, fun k h7 h8 h9 => ?_, fun k t h7 h9 ht => ?_, fun k h6 h14 => ?_, fun t ht => ?_, fun k i s z hk h => ?_⟩
  · rw [d.1, cN_I, cN_I, b.1, cN_I, cN_I, a.2.2.2.1]; rfl
  · rw [d.2.2.1, cL_I, cL_I, b.2.2.1, cL_I, cL_I, a.2.1]; rfl
  · rw [d.2.2.2.1, cJ_I, cJ_I, b.2.2.2.1, cJ_I, cJ_I, a.2.2.1]; rfl
  · funext i; rw [eI k i h7 h8, cI_I, if_neg h0]
  · rw [eI 0 0 (by decide) (by decide)]; rfl
  · rw [d.2.1, cI_I, if_pos rfl]
    by_cases e : i = 1
    · rw [if_pos e]
    · rw [if_neg e, cI_I, if_neg (by decide), b.2.1, cI_I, if_pos rfl, if_pos (by omega)]
  · rw [d.2.2.2.2.1, cA_I, cA_I, b.2.2.2.2.1, cA_I, cA_I, a.2.2.2.2.2.1 k h7 h8 h9]; rfl
  · rw [d.2.2.2.2.1, cA_I, cA_I, b.2.2.2.2.1, cA_I, cA_I]; exact a.2.2.2.2.2.2.2 k t h7 h9 ht
  · rw [d.2.2.2.2.2.1 k h14, cR_I, cR_I, b.2.2.2.2.2.1 k h14, cR_I, cR_I, a.2.2.2.2.1 k h6]; rfl
  · rw [d.2.2.2.2.2.1 6 (by decide), cR_I, cR_I, b.2.2.2.2.2.1 6 (by decide), cR_I, cR_I]; exact a.2.2.2.2.2.2.1 t ht
  · rcases hk with rfl | rfl
    · rw [d.2.2.2.2.2.1 6 (by decide), cR_I, cR_I, b.2.2.2.2.2.1 6 (by decide), cR_I, cR_I] at h
      exact a6 i s z h
    · have h1 := d.2.2.2.2.2.2 i s z h
      rw [cR_I, cR_I] at h1
      have h2 := b.2.2.2.2.2.2 i s z h1
      rw [cR_I, cR_I, a.2.2.2.2.1 14 (by decide)] at h2
      exact h2
theorem RS.forg {c : CC} (h : RS c) (q qa : Nat) : RS (cForg c q qa) := by
  have o := cForg_o c q qa
  generalize cForg c q qa = c1 at o ⊢
  obtain ⟨h1, h2, h3, h4, h5⟩ := h
  refine ⟨fun i j z e => ?_, fun i j z e => ?_, fun i j z e => ?_, fun i hi => ?_, fun i hi => ?_⟩
  · rw [o.2.2.2.2.2.2.2.2.1 4 (by decide) (by decide)] at e; rw [o.1]; exact h1 i j z e
  · rw [o.1]; exact h2 i j z (o.2.2.2.2.2.2.2.2.2.2 6 i j z (.inl rfl) e)
  · rw [o.1]; exact h3 i j z (o.2.2.2.2.2.2.2.2.2.2 14 i j z (.inr rfl) e)
  · rw [o.2.2.2.2.2.2.2.2.1 10 (by decide) (by decide)]; exact h4 i hi
  · obtain ⟨q, -, -, -, e⟩ := h5 i hi
    exact ⟨0, o.2.2.2.2.2.1 i hi, by omega, by omega, by rw [o.1]; exact e⟩
theorem R0.forg {c : CC} {lp : Nat → Nat} {g : MM} (h : R0 c lp g) (q qa : Nat) : R0 (cForg c q qa) lp (mForget g) := by
  have o := cForg_o c q qa
  generalize cForg c q qa = c1 at o ⊢
  refine h.of (o.2.2.2.2.2.2.2.2.1 4 (by decide) (by decide)) ⟨by rw [o.1], by rw [o.1]⟩ (fun k hk => o.2.2.2.1 k (by omega) (by omega) (by omega)) (by rw [o.2.1]) (o.2.2.2.2.2.2.1 5 (by decide) (by decide) (by decide)) (by rw [o.2.2.1]) (fun k hk => ?_) (by rw [mForget_L]) (mForget_A g (by decide) (by decide) (by decide) (by decide) (by decide)) (by rw [mForget_J])
  rw [mForget_I, if_neg (by omega), if_neg (by omega), if_neg (by omega)]
theorem used0 (g : MM) (p : Int32) : mUsed g (fun _ => 0) p = false := by
  rw [Bool.eq_false_iff]
  intro z
  obtain ⟨f, i, _, hi, _⟩ := (mUsed_iff g _ p).mp z
  exact absurd hi (Nat.not_lt_zero i)
/-- an empty directory -/
theorem R1.empty {c : CC} {g : MM} (h6 : ∀ t, t < 8 → cR c 6 0 t = none) (hA : ∀ k t, 7 ≤ k → k ≤ 9 → t < 101 → cA c k 0 t = 0) (m3 : ∀ f, f < 8 → mA g 3 f = 0 ∧ mA g 4 f = 0 ∧ mA g 8 f = 0) (m9 : ∀ k, k < 101 → mA g 9 k = 0) : R1 c g (fun _ => none) (fun _ => 0) (fun _ _ => 0) := by
  have z : ∀ i, ¬ i < pg 0 := fun i => Nat.not_lt_zero i
  refine ⟨fun f hf => ⟨h6 f hf, fun j e => by cases e⟩, fun f f' j _ _ e => (by cases e), fun f hf => ⟨fun _ => ⟨(m3 f hf).1, rfl, (m3 f hf).2.2⟩, fun j e => by cases e⟩, ⟨fun f hf => ⟨(m3 f hf).2.1, Nat.zero_le _⟩, fun f i _ hi => absurd hi (z _), fun f i f' i' _ _ hi => absurd hi (z _)⟩, ⟨fun f i _ hi => absurd hi (z _), fun p hp _ => hA 7 p (by omega) (by omega) hp⟩, fun p hp => ⟨?_, ?_, ?_⟩⟩
  · rw [hA 8 p (by omega) (by omega) hp, used0]; rfl
  · rw [hA 9 p (by omega) (by omega) hp, m9 p hp]
  · rw [m9 p hp]; exact .inl rfl
theorem mData0_o (m : MM) (t : Nat) : mI (mData0 m t) = mI m ∧ mL (mData0 m t) = mL m ∧ mA (mData0 m t) = mA m ∧ ∀ p, p < t → mJ (mData0 m t) 2 p = 0 := by
  induction t with
  | zero => exact ⟨rfl, rfl, rfl, fun p h => absurd h (Nat.not_lt_zero _)⟩
  | succ t ih =>
    refine ⟨ih.1, ih.2.1, ih.2.2.1, fun p hp => ?_⟩
    rw [mData0, mSJ, mJ_J, if_pos rfl, updL_at]
    split
    · rfl
    · exact ih.2.2.2 p (by omega)
/-- the chip behind a test -/
theorem R0.test {c : CC} {lp : Nat → Nat} {g g' : MM} (h : R0 c lp g) (hg : 64 ≤ gN c lp 69) (f1 : mI g' 1 = 1) (fI : ∀ k, k = 2 ∨ k = 3 ∨ k = 4 → mI g' k = mI g k) (fL : mL g' 0 = mL g 0 + 202) (fA : mA g' 1 = mA g 1) (fJ : ∀ p, p < 101 → mJ g' 2 p = 0) : R0 (cTest c lp) lp g' := by
  have hD := Dat.test h.1 hg fJ
  have o := cT3_o c lp 69
  unfold cTest at hD ⊢
  generalize cT3 c lp 69 = c1 at o hD ⊢
  obtain ⟨h1, h2, h3, h4, h5, h6, h7, h8⟩ := h
  refine ⟨h1.of o.2.2.1 o.2.2.2 (by funext i; rw [cI_I, if_neg (by decide), cI_L, o.1]), ?_, ?_, ?_, ?_, ?_, ?_, fun _ => ⟨_, hD⟩⟩
  · rw [f1]; exact ⟨rfl, .inr rfl⟩
  · rw [cI_I, if_neg (by decide), cI_L, o.1, fI 2 (by omega)]; exact h3
  · rw [cL_I, cL_L, if_pos rfl, if_pos rfl, o.2.1, fL, h4]
  · rw [cI_I, if_neg (by decide), cI_L, o.1, fI 3 (by omega)]; exact h5
  · rw [cI_I, if_neg (by decide), cI_L, o.1, fI 4 (by omega)]; exact h6
  · intro k hk; rw [cN_I, cN_L, o.2.2.2, fA]; exact h7 k hk
theorem RS.test {c : CC} (h : RS c) (lp : Nat → Nat) : RS (cTest c lp) := by
  have o := cT3_o c lp 69
  unfold cTest
  generalize cT3 c lp 69 = c1 at o ⊢
  exact h.of (by rw [cR_I, cR_L, o.2.2.1]) (by rw [cN_I, cN_L, o.2.2.2]) (by funext i; rw [cI_I, if_neg (by decide), cI_L, o.1])
/-- how many loops are good -/
theorem good_eq {c : CC} {lp : Nat → Nat} {g : MM} (h : R0 c lp g) : ∀ k, k ≤ 69 → mGood g k = nI (gN c lp k)
  | 0, _ => rfl
  | k + 1, hk => by
    have z := h.2.2.2.2.2.2.1 k (by omega)
    rw [mGood, gN, good_eq h k (by omega)]
    unfold gd
    by_cases e : mA g 1 k = 0
    · rw [if_pos e, if_pos (by rw [decide_eq_true_eq]; exact z.mpr e), nI_1]
    · rw [if_neg e, if_neg (by rw [decide_eq_true_eq]; exact fun y => e (z.mp y))]; rfl
/-- what format starts its sync with -/
theorem Al.fmt {c : CC} {lp : Nat → Nat} {g : MM} (h : R0 c lp g) (hS : RS c) (hg : 64 ≤ gN c lp 69) (q qa : Nat) (ap zq za : Nat → Nat) : Al (sI (sI (sI (cForg (cTest c lp) q qa) 5 0 1) 6 0 255) 0 0 1) lp (mFmt2 g) (fun _ => none) (fun _ => 0) (fun _ _ => 0) 1 255 0 0 ap zq za ∧ mI (mFmt2 g) 1 = 1 ∧ mI (mFmt2 g) 4 = mI g 4 ∧ mI (mFmt2 g) 5 = 1 ∧ Blank (mJ (mFmt2 g) 2) := by
  have d0 := mData0_o (smI (smL (smI g 0 (mOnC g)) 0 (mL g 0 + 202)) 1 1) 101
  have r1 := h.test hg (g' := mData0 (smI (smL (smI g 0 (mOnC g)) 0 (mL g 0 + 202)) 1 1) 101) (by rw [d0.1]; rfl) (fun k hk => by rw [d0.1, mI_I, if_neg (by omega), mI_L, mI_I, if_neg (by omega)]) (by rw [d0.2.1]; rfl) (by rw [d0.2.2.1]; rfl) d0.2.2.2
  have s1 := hS.test lp
  unfold mFmt2 mFmt1
  generalize mData0 (smI (smL (smI g 0 (mOnC g)) 0 (mL g 0 + 202)) 1 1) 101 = g1 at d0 r1 ⊢
  generalize cTest c lp = c1 at r1 s1 ⊢
  have r2 := r1.forg q qa
  have s2 := s1.forg q qa
  have o := cForg_o c1 q qa
  generalize cForg c1 q qa = c2 at r2 s2 o ⊢
  have m3 := fun f (hf : f < 8) => mForget_at g1 hf
  have m9 := fun k (hk : k < 101) => mForget_9 g1 hk
  have mi := fun k => mForget_I g1 k
  have mj := mForget_J g1
  generalize mForget g1 = g2 at r2 m3 m9 mi mj ⊢
  have eI : ∀ k, k ≠ 0 → k ≠ 5 → k ≠ 6 → cI (sI (sI (sI c2 5 0 1) 6 0 255) 0 0 1) k = cI c2 k := fun k a b d => by funext i; rw [cI_I, if_neg a, cI_I, if_neg d, cI_I, if_neg b]
  have fI : ∀ k, k ≠ 5 → k ≠ 6 → k ≠ 7 → mI (smI (smI (smI g2 6 1) 7 255) 5 1) k = mI g2 k := fun k a b d => by rw [mI_I, if_neg a, mI_I, if_neg d, mI_I, if_neg b]
  have hr1 : R1 (sI (sI (sI c2 5 0 1) 6 0 255) 0 0 1) (smI (smI (smI g2 6 1) 7 255) 5 1) (fun _ => none) (fun _ => 0) (fun _ _ => 0) := R1.empty o.2.2.2.2.2.2.2.2.2.1 o.2.2.2.2.2.2.2.1 (fun f hf => ⟨(m3 f hf).1, (m3 f hf).2.1, (m3 f hf).2.2.2⟩) m9
  refine ⟨⟨r2.of rfl ⟨rfl, rfl⟩ (fun k hk => eI k (by omega) (by omega) (by omega)) rfl rfl rfl (fun k hk => fI k (by omega) (by omega) (by omega)) rfl rfl rfl, hr1, ⟨rfl, rfl, by omega, rfl, rfl, by omega⟩, s2.of rfl rfl (eI 8 (by decide) (by decide) (by decide)), ⟨?_, by omega, ?_⟩, ⟨?_, by omega, ?_⟩, fun t ht => absurd ht (Nat.not_lt_zero _), fun t ht => absurd ht (Nat.not_lt_zero _)⟩, ?_, ?_, rfl, fun p hp => ?_⟩
  · rw [fI 8 (by decide) (by decide) (by decide), mi]; rfl
  · rw [eI 8 (by decide) (by decide) (by decide)]; exact o.2.2.2.2.2.1 0 (by omega)
  · rw [fI 9 (by decide) (by decide) (by decide), mi]; rfl
  · rw [eI 8 (by decide) (by decide) (by decide)]; exact o.2.2.2.2.2.1 1 (by omega)
  · rw [fI 1 (by decide) (by decide) (by decide), mi, d0.1]; rfl
  · rw [fI 4 (by decide) (by decide) (by decide), mi, d0.1]; rfl
  · show mJ g2 2 p = 0
    rw [mj]; exact d0.2.2.2 p (by omega)
