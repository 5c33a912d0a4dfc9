/-! one window and the chip may have changed -/
def TW (j : Nat) (c c' : CC) : Prop := cA c' = cA c ∧ cR c' = cR c ∧ cN c' = cN c ∧ (∀ k i, k ≠ 2 → k ≠ 3 → k ≠ 4 → (k ≠ 13 ∧ k ≠ 14) ∨ i ≠ j → cI c' k i = cI c k i) ∧ ∀ k i, k ≠ 0 → k ≠ 1 ∨ i ≠ j → cL c' k i = cL c k i
def TmW (f : Nat) (g g' : MM) : Prop := (∀ k, k ≠ 6 → k ≠ 8 → mA g' k = mA g k) ∧ (∀ k f', f' ≠ f → mA g' k f' = mA g k f') ∧ (∀ k, k ≠ 2 → k ≠ 3 → k ≠ 4 → mI g' k = mI g k) ∧ (∀ k, k ≠ 2 → k ≠ 7 → mJ g' k = mJ g k) ∧ ∀ f', f' ≠ f → mJ g' 7 f' = mJ g 7 f'
theorem Tr.tw {c c' : CC} (h : Tr c c') (j : Nat) : TW j c c' := ⟨h.1, h.2.1, h.2.2.1, fun k i a b d _ => by rw [h.2.2.2.1 k a b d], fun k i a _ => by rw [h.2.2.2.2 k a]⟩
theorem Tm.tw {g g' : MM} (h : Tm g g') (f : Nat) : TmW f g g' := ⟨fun k _ _ => by rw [h.1], fun k _ _ => by rw [h.1], h.2.1, fun k a _ => h.2.2 k a, fun f' _ => by rw [h.2.2 7 (by decide)]⟩
theorem TW.trans {j : Nat} {a b c : CC} (h : TW j a b) (k : TW j b c) : TW j a c := ⟨k.1.trans h.1, k.2.1.trans h.2.1, k.2.2.1.trans h.2.2.1, fun q i x y z w => (k.2.2.2.1 q i x y z w).trans (h.2.2.2.1 q i x y z w), fun q i x w => (k.2.2.2.2 q i x w).trans (h.2.2.2.2 q i x w)⟩
theorem TmW.trans {f : Nat} {a b c : MM} (h : TmW f a b) (k : TmW f b c) : TmW f a c := ⟨fun q x y => (k.1 q x y).trans (h.1 q x y), fun q f' x => (k.2.1 q f' x).trans (h.2.1 q f' x), fun q x y z => (k.2.2.1 q x y z).trans (h.2.2.1 q x y z), fun q x y => (k.2.2.2.1 q x y).trans (h.2.2.2.1 q x y), fun f' x => (k.2.2.2.2 f' x).trans (h.2.2.2.2 f' x)⟩
theorem TW.s14 (j : Nat) (c : CC) (v : Int32) : TW j c (sI c 14 j v) := ⟨rfl, rfl, rfl, fun k i _ _ _ h => by
  rw [cI_I]
  by_cases e : k = 14
  · rw [if_pos e, if_neg (by omega)]
  · rw [if_neg e], fun _ _ _ _ => rfl⟩
theorem TW.s13 (j : Nat) (c : CC) (v : Int32) : TW j c (sI c 13 j v) := ⟨rfl, rfl, rfl, fun k i _ _ _ h => by
  rw [cI_I]
  by_cases e : k = 13
  · rw [if_pos e, if_neg (by omega)]
  · rw [if_neg e], fun _ _ _ _ => rfl⟩
theorem TW.l1 (j : Nat) (c : CC) (v : Int64) : TW j c (sL c 1 j v) := ⟨rfl, rfl, rfl, fun _ _ _ _ _ _ => rfl, fun k i _ h => by
  rw [cL_L]
  by_cases e : k = 1
  · rw [if_pos e, if_neg (by omega)]
  · rw [if_neg e]⟩
theorem TmW.s8 (f : Nat) (g : MM) (v : Int32) : TmW f g (mS g 8 f v) := ⟨fun k _ h => by rw [mS, mA_A, if_neg h], fun k f' h => by
  rw [mS, mA_A]; split
  · next e => rw [upd_at, if_neg h, e]
  · rfl, fun _ _ _ _ => rfl, fun _ _ _ => rfl, fun _ _ => rfl⟩
theorem TmW.s6 (f : Nat) (g : MM) (v : Int32) : TmW f g (mS g 6 f v) := ⟨fun k h _ => by rw [mS, mA_A, if_neg h], fun k f' h => by
  rw [mS, mA_A]; split
  · next e => rw [upd_at, if_neg h, e]
  · rfl, fun _ _ _ _ => rfl, fun _ _ _ => rfl, fun _ _ => rfl⟩
theorem TmW.j7 (f : Nat) (g : MM) (v : Int64) : TmW f g (mSJ g 7 f v) := ⟨fun k _ _ => rfl, fun _ _ _ => rfl, fun _ _ _ _ => rfl, fun k _ h => by rw [mSJ, mJ_J, if_neg h], fun f' h => by rw [mSJ, mJ_J, if_pos rfl, updL_at, if_neg h]⟩
theorem TmW.save (f : Nat) (g : MM) : TmW f g (mSave g f) := by
  unfold mSave; split
  · exact (Tm.refl g).tw f
  · exact ((Tm.wr g _ _).tw f).trans (TmW.s8 f _ _)
theorem TmW.load (f : Nat) (g : MM) (p : Nat) : TmW f g (mLoad g f p) := by
  unfold mLoad; split
  · exact (Tm.refl g).tw f
  · exact (((TmW.save f g).trans ((Tm.rd _ p).tw f)).trans (TmW.j7 f _ _)).trans (TmW.s6 f _ _)
theorem R1.tw {c c' : CC} {g g' : MM} {fo : Nat → Option Nat} {L : Nat → Nat} {ch : Nat → Nat → Nat} {f j : Nat} (h : R1 c g fo L ch) (hf : f < 8) (hj : fo f = some j) (t : TW j c c') (u : TmW f g g') (hW : RW c' g' j f) : R1 c' g' fo L ch :=
  h.win hf hj (by rw [t.2.1]) (by rw [t.2.2.1]) (fun k h1 h2 => by funext i; exact t.2.2.2.1 k i (by omega) (by omega) (by omega) (by omega)) (fun k i h1 h2 h3 => t.2.2.2.1 k i (by omega) (by omega) (by omega) (.inr h3)) (fun i h3 => t.2.2.2.2 1 i (by decide) (.inr h3)) (fun k _ _ => by rw [t.1]) (fun k hk => u.1 k (by omega) (by omega)) (fun k f' _ hne => u.2.1 k f' hne) u.2.2.2.2 hW
theorem RC.tw {c c' : CC} {g g' : MM} {cu tn j f : Nat} (h : RC c g cu tn) (t : TW j c c') (u : TmW f g g') : RC c' g' cu tn :=
  h.of (by funext i; exact t.2.2.2.1 5 i (by decide) (by decide) (by decide) (.inl ⟨by decide, by decide⟩)) (by funext i; exact t.2.2.2.1 6 i (by decide) (by decide) (by decide) (.inl ⟨by decide, by decide⟩)) (u.2.2.1 6 (by decide) (by decide) (by decide)) (u.2.2.1 7 (by decide) (by decide) (by decide))
theorem RQ.tw {c c' : CC} {g g' : MM} {q qa j f : Nat} {ap zq za : Nat → Nat} (h : RQ c g q qa ap zq za) (t : TW j c c') (u : TmW f g g') : RQ c' g' q qa ap zq za :=
  h.of (by rw [t.2.1]) (by rw [t.2.2.1]) (by funext i; exact t.2.2.2.1 8 i (by decide) (by decide) (by decide) (.inl ⟨by decide, by decide⟩)) (fun k _ _ => by funext i; exact t.2.2.2.1 k i (by omega) (by omega) (by omega) (.inl ⟨by omega, by omega⟩)) ⟨by funext i; exact t.2.2.2.2 2 i (by decide) (.inl (by decide)), by funext i; exact t.2.2.2.2 3 i (by decide) (.inl (by decide))⟩ ⟨u.2.2.1 8 (by decide) (by decide) (by decide), u.2.2.1 9 (by decide) (by decide) (by decide)⟩ ⟨u.1 12 (by decide) (by decide), u.1 13 (by decide) (by decide)⟩ ⟨u.2.2.2.1 14 (by decide) (by decide), u.2.2.2.1 16 (by decide) (by decide)⟩
theorem RS.tw {c c' : CC} {j : Nat} (h : RS c) (t : TW j c c') : RS c' := h.of t.2.1 t.2.2.1 (by funext i; exact t.2.2.2.1 8 i (by decide) (by decide) (by decide) (.inl ⟨by decide, by decide⟩))
/-- R0 does not look at windows -/
theorem R0.ofW {c : CC} {lp : Nat → Nat} {g : MM} (h : R0 c lp g) {c' : CC} {g' : MM} (eI : ∀ k, k < 13 → cI c' k = cI c k) (e0 : cL c' 0 = cL c 0) (eA : cA c' = cA c) (eJ : cJ c' = cJ c) (eR : cR c' = cR c) (eN : cN c' = cN c) (fI : mI g' = mI g) (fL : mL g' = mL g) (fA : mA g' 1 = mA g 1) (fJ : mJ g' 2 = mJ g 2) : R0 c' lp g' :=
  h.of (by rw [eR]) ⟨by rw [eN], by rw [eN]⟩ (fun k hk => eI k (by omega)) e0 (by rw [eA]) (by rw [eJ]) (fun k _ => by rw [fI]) (by rw [fL]) fA fJ
