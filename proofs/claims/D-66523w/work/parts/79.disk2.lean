/-! what the disk holds behind a sync -/
theorem wdD_0 {A : Nat → Int32} {p : Nat} (h : ∀ t, t < 8 → A (8 * p + t) = 0) : wdD A p 8 0 = 0 := by
  rw [wdD_cg (B := fun _ => 0) 8 0 (fun t ht => h t ht)]
  have st : ((0 : Int64) <<< ((8 : Int32).toInt64 &&& 63)) ||| (0 : Int32).toInt64 = 0 := by decide
  simp only [wdD, st]
theorem WhI.ofW {d : Nat → Int64} {i : Nat} {A B : Nat → Int32} (h : ∀ p, p < 20 → d (20 * i + p) = wdD A p 8 0) (e : ∀ t, t < 160 → A t = B t) : WhI d i B := fun p hp => by
  rw [h p hp]; exact wdD_cg 8 0 (fun t ht => e _ (by omega))
theorem Disk.img {g : MM} {cu tn : Nat} {nm nx : Nat → Int32} {L : Nat → Nat} {ch : Nat → Nat → Nat} (hd : Disk (mJ g 2) cu tn) (hA : ∀ t, t < 160 → mA g 10 t = DDr (nI ((tn + 1) % 256)) nm L ch nx t) (hO : DOk nm L ch nx) :
    (¬ mI (mWrN g (1 - cu) 20) 4 = 0 → Disk (mJ (mWrN g (1 - cu) 20) 2) (1 - cu) ((tn + 1) % 256)) ∧ (mI (mWrN g (1 - cu) 20) 4 = 0 → Disk (mJ (mWrN g (1 - cu) 20) 2) cu tn) := by
  have hd0 := hd
  obtain ⟨h1, h2, ⟨nm0, L0, ch0, nx0, h3, h4⟩, h5⟩ := hd
  constructor
  · intro hon
    have z := mWrN_J2 g (1 - cu) 20 (by omega) hon
    generalize mJ (mWrN g (1 - cu) 20) 2 = d at z ⊢
    refine ⟨by omega, Nat.mod_lt _ (by decide), ⟨nm, L, ch, nx, hO, WhI.ofW (fun p hp => ?_) hA⟩, .inl ?_⟩
    · by_cases e : p = 0
      · subst e
        exact z.1 20 (by omega) (by omega)
      · have := z.1 p (by omega) (by omega)
        rwa [Nat.mod_eq_of_lt hp] at this
    · obtain ⟨f, hf⟩ := DDr_byt (nI tn) nm0 L0 ch0 nx0
      have y := h4.byte hf (t := 0) (by omega)
      rw [show 20 * cu + 0 / 8 = 20 * cu from rfl, show 0 % 8 = 0 from rfl] at y
      rw [show 1 - (1 - cu) = cu by omega, z.2 _ (fun s a b w => by omega), y]
      show imB _ _ _ _ _ 0 = _
      rw [imB_0, byte1 h2]
      refine congrArg nI ?_
      omega
  · intro hoff
    by_cases hg : mI g 4 = 0
    · rw [mWrN_0 hg]; exact hd0
    · obtain ⟨s, a, b, e⟩ := mWrN_torn g (1 - cu) 20 (by omega) hg hoff
      have z := mWrN_J2 g (1 - cu) s (by omega) b
      rw [e]
      generalize mJ (mWrN g (1 - cu) s) 2 = d at z ⊢
      refine ⟨h1, h2, ⟨nm0, L0, ch0, nx0, h3, fun p hp => ?_⟩, ?_⟩
      · rw [z.2 _ (fun s' a' b' w => by omega)]; exact h4 p hp
      · rw [z.2 (20 * (1 - cu)) (fun s' a' b' w => by omega)]
        rcases h5 with y | ⟨y1, y2, y3⟩
        · exact .inl y
        · refine .inr ⟨y1, y2, ?_⟩
          rw [z.2 20 (fun s' a' b' w => by omega)]; exact y3
def Blank (d : Nat → Int64) : Prop := ∀ p, p < 40 → d p = 0
theorem DOk0 : DOk (fun _ => 0) (fun _ => 0) (fun _ _ => 0) (fun _ => 0) := by
  have z : ∀ i, ¬ i < pg 0 := fun i => Nat.not_lt_zero i
  refine ⟨⟨fun f i _ hi => absurd hi (z _), fun _ _ _ => rfl⟩, fun f i f' i' _ _ hi => absurd hi (z _), fun f _ => ⟨Nat.zero_le _, fun _ => rfl, fun i hi => absurd hi (z _)⟩⟩
theorem DDr0 {t : Nat} (ht : t < 158) : DDr 0 (fun _ => 0) (fun _ => 0) (fun _ _ => 0) (fun _ => 0) t = 0 := by
  unfold DDr imB im0 imE
  rw [if_pos ht]
  have z : (if pg 0 = 0 then (0 : Int32) else nI 0) = 0 := by split <;> rfl
  split
  · exact mByte_0 (by omega)
  · split
    · split
      · exact mByte_0 (by omega)
      · split
        · show mByte (if pg 0 = 0 then (0 : Int32) else nI 0).toInt64 0 = 0
          rw [z]; exact mByte_0 (by omega)
        · exact mByte_0 (by omega)
    · exact mByte_0 (by omega)
theorem Blank.img {g : MM} (hb : Blank (mJ g 2)) (hA : ∀ t, t < 160 → mA g 10 t = DDr 0 (fun _ => 0) (fun _ => 0) (fun _ _ => 0) (fun _ => 0) t) :
    (¬ mI (mWrN g 0 20) 4 = 0 → Disk (mJ (mWrN g 0 20) 2) 0 0) ∧ (mI (mWrN g 0 20) 4 = 0 → Blank (mJ (mWrN g 0 20) 2) ∨ Disk (mJ (mWrN g 0 20) 2) 0 0) := by
  have w0 : ∀ p, p < 19 → wdD (mA g 10) p 8 0 = 0 := fun p hp => wdD_0 fun t ht => by rw [hA _ (by omega), DDr0 (by omega)]
  have key : ∀ s, 19 ≤ s → s ≤ 20 → ¬ mI (mWrN g 0 s) 4 = 0 → Disk (mJ (mWrN g 0 s) 2) 0 0 := by
    intro s h19 h20 hon
    have z := mWrN_J2 g 0 s h20 hon
    generalize mJ (mWrN g 0 s) 2 = d at z ⊢
    refine ⟨by omega, by omega, ⟨_, _, _, _, DOk0, WhI.ofW (A := mA g 10) (fun p hp => ?_) hA⟩, .inr ⟨rfl, rfl, ?_⟩⟩
    · by_cases e : p = 0
      · subst e
        by_cases es : s = 20
        · subst es; exact z.1 20 (by omega) (by omega)
        · rw [z.2 _ (fun s' a b w => by omega), hb _ (by omega), w0 0 (by omega)]
      · have := z.1 p (by omega) (by omega)
        rwa [Nat.mod_eq_of_lt hp] at this
    · rw [z.2 20 (fun s' a b w => by omega), hb _ (by omega)]; exact mByte_0 (by omega)
  refine ⟨fun hon => key 20 (by omega) (by omega) hon, fun hoff => ?_⟩
  by_cases hg : mI g 4 = 0
  · rw [mWrN_0 hg]; exact .inl hb
  · obtain ⟨s, a, b, e⟩ := mWrN_torn g 0 20 (by omega) hg hoff
    rw [e]
    by_cases h19 : s = 19
    · exact .inr (key s (by omega) (by omega) b)
    · left
      have z := mWrN_J2 g 0 s (by omega) b
      generalize mJ (mWrN g 0 s) 2 = d at z ⊢
      intro p hp
      by_cases y : ∃ s', 1 ≤ s' ∧ s' ≤ s ∧ 20 * 0 + s' % 20 = p
      · obtain ⟨s', a1, a2, rfl⟩ := y
        rw [z.1 s' a1 a2, w0 _ (by omega)]
      · rw [z.2 p (fun s' a1 a2 w => y ⟨s', a1, a2, w⟩)]; exact hb p hp
/-- windows are saved: pages from 40 on -/
theorem mSave_J2 {g : MM} {f : Nat} (h : ¬ mA g 8 f = 0 → ∃ p, 40 ≤ p ∧ p < 101 ∧ mA g 6 f = nI p) {q : Nat} (hq : q < 40) : mJ (mSave g f) 2 q = mJ g 2 q := by
  unfold mSave
  split
  · rfl
  · next e =>
    obtain ⟨p, h1, h2, h3⟩ := h e
    show mJ (mWrite g (mA g 6 f).toNatClampNeg (mJ g 7 f)) 2 q = _
    rw [h3, nI_clamp (by omega), mWrite_J2' _ _ _ (by omega)]
theorem mSave_8 (g : MM) (f f' : Nat) : mA (mSave g f) 8 f' = if f' = f then 0 else mA g 8 f' := by
  unfold mSave
  by_cases e : mA g 8 f = 0
  · rw [if_pos e]
    split
    · next z => rw [z, e]
    · rfl
  · rw [if_neg e, mS, mA_A, if_pos rfl, upd_at, mWrite_A]
theorem mSaveN_8 (g : MM) (f : Nat) : ∀ t, mA (mSaveN g t) 8 f = if f < t then 0 else mA g 8 f
  | 0 => by rw [if_neg (Nat.not_lt_zero _)]; rfl
  | t + 1 => by
    rw [mSaveN, mSave_8, mSaveN_8 g f t]
    by_cases e : f = t
    · rw [if_pos e, if_pos (by omega)]
    · rw [if_neg e]
      by_cases z : f < t
      · rw [if_pos z, if_pos (by omega)]
      · rw [if_neg z, if_neg (by omega)]
theorem mSaveN_J2 {g : MM} (h : ∀ f, f < 8 → ¬ mA g 8 f = 0 → ∃ p, 40 ≤ p ∧ p < 101 ∧ mA g 6 f = nI p) {q : Nat} (hq : q < 40) : ∀ t, t ≤ 8 → mJ (mSaveN g t) 2 q = mJ g 2 q
  | 0, _ => rfl
  | t + 1, ht => by
    rw [mSaveN, mSave_J2 (fun e => ?_) hq]
    · exact mSaveN_J2 h hq t (by omega)
    · rw [mSaveN_A g (by decide)]
      rw [mSaveN_8, if_neg (by omega)] at e
      exact h t (by omega) e
theorem mSave_J (g : MM) (f : Nat) {k : Nat} (hk : k ≠ 2) : mJ (mSave g f) k = mJ g k := by
  unfold mSave; split
  · rfl
  · exact (Tm.wr g _ _).2.2 k hk
theorem mSaveN_J (g : MM) {k : Nat} (hk : k ≠ 2) : ∀ t, mJ (mSaveN g t) k = mJ g k
  | 0 => rfl
  | t + 1 => by rw [mSaveN, mSave_J _ _ hk]; exact mSaveN_J g hk t
