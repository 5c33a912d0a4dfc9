/-! sync: the model's side; by hand -/
/-- the cells that R0 looks at -/
def Core (g g' : MM) : Prop := (∀ k, k = 1 ∨ k = 2 ∨ k = 3 ∨ k = 4 → mI g' k = mI g k) ∧ mL g' 0 = mL g 0 ∧ mA g' 1 = mA g 1 ∧ mJ g' 2 = mJ g 2
theorem Core.refl (g : MM) : Core g g := ⟨fun _ _ => rfl, rfl, rfl, rfl⟩
theorem Core.trans {a b c : MM} (h : Core a b) (k : Core b c) : Core a c := ⟨fun i hi => (k.1 i hi).trans (h.1 i hi), k.2.1.trans h.2.1, k.2.2.1.trans h.2.2.1, k.2.2.2.trans h.2.2.2⟩
theorem R0.core {c : CC} {lp : Nat → Nat} {g g' : MM} (h : R0 c lp g) (k : Core g g') : R0 c lp g' := h.of rfl ⟨rfl, rfl⟩ (fun _ _ => rfl) rfl rfl rfl k.1 k.2.1 k.2.2.1 k.2.2.2
theorem Core.s (g : MM) {k : Nat} (hk : k ≠ 1) (t : Nat) (v : Int32) : Core g (mS g k t v) := ⟨fun _ _ => rfl, rfl, by rw [mS, mA_A, if_neg (fun z => hk z.symm)], rfl⟩
theorem Core.i (g : MM) {k : Nat} (hk : k ≠ 1 ∧ k ≠ 2 ∧ k ≠ 3 ∧ k ≠ 4) (v : Int32) : Core g (smI g k v) := ⟨fun i hi => by rw [mI_I, if_neg (by omega)], rfl, rfl, rfl⟩
theorem Core.saveOff {g : MM} (h : mI g 4 = 0) (f : Nat) : Core g (mSave g f) := by
  rw [mSave_off h]; split
  · exact Core.refl g
  · exact Core.s g (by decide) f 0
theorem Core.saveN {g : MM} {t : Nat} (h : mI (mSaveN g t) 4 = 0) : ∀ n, Core (mSaveN g t) (mSaveN g (t + n))
  | 0 => Core.refl _
  | n + 1 => by
    have ih := Core.saveN h n
    rw [show t + (n + 1) = (t + n) + 1 from rfl, mSaveN]
    exact ih.trans (Core.saveOff ((ih.1 4 (by omega)).trans h) _)
theorem mPutB_o (m : MM) (p : Nat) (v : Int64) (k : Nat) : mI (mPutB m p v k) = mI m ∧ mL (mPutB m p v k) = mL m ∧ mJ (mPutB m p v k) = mJ m := by
  induction k with
  | zero => exact ⟨rfl, rfl, rfl⟩
  | succ k ih => exact ih
theorem mBeh0_o (m : MM) (t : Nat) : mI (mBeh0 m t) = mI m ∧ mL (mBeh0 m t) = mL m ∧ mJ (mBeh0 m t) = mJ m := by
  induction t with
  | zero => exact ⟨rfl, rfl, rfl⟩
  | succ t ih => exact ih
theorem mLk_o (m : MM) (ch : Nat → Nat → Nat) (f t : Nat) : mI (mLk m ch f t) = mI m ∧ mL (mLk m ch f t) = mL m ∧ mJ (mLk m ch f t) = mJ m := by
  induction t with
  | zero => exact ⟨rfl, rfl, rfl⟩
  | succ t ih => exact ih
theorem tri {α β γ : Type} {a a' a2 : α} {b b' b2 : β} {c c' c2 : γ} (h : a2 = a' ∧ b2 = b' ∧ c2 = c') (k : a' = a ∧ b' = b ∧ c' = c) : a2 = a ∧ b2 = b ∧ c2 = c := ⟨h.1.trans k.1, h.2.1.trans k.2.1, h.2.2.trans k.2.2⟩
theorem mImN_o (m : MM) (L : Nat → Nat) (ch : Nat → Nat → Nat) (t : Nat) : mI (mImN m L ch t) = mI m ∧ mL (mImN m L ch t) = mL m ∧ mJ (mImN m L ch t) = mJ m := by
  induction t with
  | zero => exact ⟨rfl, rfl, rfl⟩
  | succ t ih =>
    rw [mImN, mImF]
    exact tri (mPutB_o _ _ _ _) (tri (mPutB_o _ _ _ _) (tri (mPutB_o _ _ _ _) (tri (mLk_o _ _ _ _) ih)))
theorem mLnk_o (m : MM) (t : Nat) : mI (mLnk m t) = mI m ∧ mL (mLnk m t) = mL m ∧ mJ (mLnk m t) = mJ m := by
  induction t with
  | zero => exact ⟨rfl, rfl, rfl⟩
  | succ t ih => rw [mLnk]; exact tri (mPutB_o _ _ _ _) ih
theorem mMake_o (m : MM) (L : Nat → Nat) (ch : Nat → Nat → Nat) (x : Int32) : mI (mMake m L ch x) = mI m ∧ mL (mMake m L ch x) = mL m ∧ mJ (mMake m L ch x) = mJ m := by
  rw [mMake]
  exact tri (mPutB_o _ _ _ _) (tri (mLnk_o _ _) (tri (mPutB_o _ _ _ _) (tri (mImN_o _ _ _ _) (mBeh0_o _ _))))
theorem mMake_A' (m : MM) (L : Nat → Nat) (ch : Nat → Nat → Nat) (x : Int32) {j : Nat} (h10 : j ≠ 10) (h11 : j ≠ 11) : mA (mMake m L ch x) j = mA m j := by
  have hl : ∀ (m : MM) (t : Nat), mA (mLnk m t) j = mA m j := fun m t => by
    induction t with
    | zero => rfl
    | succ t ih => rw [mLnk, mPutB_A _ _ _ h10]; exact ih
  rw [mMake, mPutB_A _ _ _ h10, hl, mPutB_A _ _ _ h10, mImN_A _ _ _ h10 h11, mBeh0_A _ h11]
theorem Core.make (m : MM) (L : Nat → Nat) (ch : Nat → Nat → Nat) (x : Int32) : Core m (mMake m L ch x) := by
  have h := mMake_o m L ch x
  exact ⟨fun k _ => by rw [h.1], by rw [h.2.1], mMake_A' m L ch x (by decide) (by decide), by rw [h.2.2]⟩
theorem Core.hold (m : MM) (L : Nat → Nat) (t : Nat) : Core m (mHoldN m L t) := by
  have h := mHoldN_o m L t
  exact ⟨fun k _ => by rw [h.1], by rw [h.2.1], h.2.2.2 1 (by decide), by rw [h.2.2.1]⟩
/-- the model's sync: saves, image, the rest -/
def mSy2 (g : MM) (L : Nat → Nat) (ch : Nat → Nat → Nat) (cu tn : Nat) : MM := mMake (mSaveN g 8) L ch (nI ((tn + 1) % 256))
def mSy3 (g : MM) (L : Nat → Nat) (ch : Nat → Nat → Nat) (cu tn : Nat) : MM := mWrN (mSy2 g L ch cu tn) (1 - cu) 20
def mSy4 (g : MM) (L : Nat → Nat) (ch : Nat → Nat → Nat) (cu tn : Nat) : MM := smI (smI (mSy3 g L ch cu tn) 6 (nI (1 - cu))) 7 (nI ((tn + 1) % 256))
theorem mSaveAll_eq (g : MM) (L : Nat → Nat) (ch : Nat → Nat → Nat) (cu tn : Nat) : mSaveAll g L ch cu tn = mHoldN (mSy4 g L ch cu tn) L 101 := by rw [mSaveAll, mSy4, mSy3, mSy2]
theorem Core.sy4 (g : MM) (L : Nat → Nat) (ch : Nat → Nat → Nat) (cu tn : Nat) : Core (mSy3 g L ch cu tn) (mSaveAll g L ch cu tn) := by
  rw [mSaveAll_eq, mSy4]
  exact ((Core.i _ (by decide) _).trans (Core.i _ (by decide) _)).trans (Core.hold _ _ _)
theorem sync_off {g : MM} {L : Nat → Nat} {ch : Nat → Nat → Nat} {cu tn t : Nat} (ht : t ≤ 8) (h : mI (mSaveN g t) 4 = 0) : Core (mSaveN g t) (mSaveAll g L ch cu tn) := by
  have h1 := Core.saveN h (8 - t)
  rw [show t + (8 - t) = 8 by omega] at h1
  have h2 : Core (mSaveN g 8) (mSy2 g L ch cu tn) := Core.make _ _ _ _
  have h3 : mI (mSy2 g L ch cu tn) 4 = 0 := ((h1.trans h2).1 4 (by omega)).trans h
  have h4 : mSy3 g L ch cu tn = mSy2 g L ch cu tn := mWrN_0 h3 20
  have h5 := Core.sy4 g L ch cu tn
  rw [h4] at h5
  exact (h1.trans h2).trans h5
/-- the image's bytes, on both sides -/
theorem R1.ent {c : CC} {g : MM} {fo : Nat → Option Nat} {L : Nat → Nat} {ch : Nat → Nat → Nat} (h : R1 c g fo L ch) : EntD c fo (mA g 3) (fun f => if pg (L f) = 0 then 0 else nI (ch f 0)) (fun f => nI (L f)) := fun f hf => by
  have z := h.2.2.1 f hf
  refine ⟨fun e => ?_, fun j e => ?_⟩
  · obtain ⟨a, b, -⟩ := z.1 e
    refine ⟨a, ?_, ?_⟩
    · show (if pg (L f) = 0 then (0 : Int32) else nI (ch f 0)) = 0
      rw [b, if_pos (by decide)]
    · show nI (L f) = 0
      rw [b]; rfl
  · obtain ⟨⟨_, a, b, d⟩, -⟩ := z.2 j e
    exact ⟨a.symm, d.symm, b.symm⟩
theorem R1.img {c : CC} {g : MM} {fo : Nat → Option Nat} {L : Nat → Nat} {ch : Nat → Nat → Nat} (h : R1 c g fo L ch) (x : Int32) {t : Nat} (ht : t < 160) : mA (mMake g L ch x) 10 t = DDr x (mA g 3) L ch (cA c 7 0) t := by
  obtain ⟨hM, hC, hI⟩ := h.2.2.2.1
  rw [mMake_10 x hC hI h.2.2.2.2.1 ht, DDr]
  refine imB_cg (fun _ _ => rfl) (fun f hf => ?_) (fun f hf => (hM f hf).1) (fun _ _ => rfl) t
  unfold mFs
  by_cases e : pg (L f) = 0
  · rw [if_pos e, if_pos e]
  · rw [if_neg e, if_neg e]
    have := (hC f 0 hf (by omega)).1
    rwa [Nat.add_zero] at this
theorem R1.dok {c : CC} {g : MM} {fo : Nat → Option Nat} {L : Nat → Nat} {ch : Nat → Nat → Nat} (h : R1 c g fo L ch) : DOk (mA g 3) L ch (cA c 7 0) := by
  obtain ⟨hM, hC, hI⟩ := h.2.2.2.1
  refine ⟨h.2.2.2.2.1, hI, fun f hf => ⟨(hM f hf).2, fun e => ?_, fun i hi => (hC f i hf hi).2⟩⟩
  cases z : fo f with
  | none => exact ((h.2.2.1 f hf).1 z).2.1
  | some j => exact absurd e ((h.2.2.1 f hf).2 j z).1.1
