/-! pages leave a chain -/
def LnP (L : Nat → Nat) (f n : Nat) : Nat → Nat := fun f' => if f' = f then n else L f'
theorem LnP_f {L : Nat → Nat} {f n f' : Nat} (h : f' ≠ f) : LnP L f n f' = L f' := if_neg h
theorem LnP_i (L : Nat → Nat) (f n : Nat) : LnP L f n f = n := if_pos rfl
theorem pg_le' {a b : Nat} (h : a ≤ b) : pg a ≤ pg b := by unfold pg; omega
theorem LnP_pg {L : Nat → Nat} {f n f' : Nat} (h : n ≤ L f) : pg (LnP L f n f') ≤ pg (L f') := by
  by_cases e : f' = f
  · subst e; rw [LnP_i]; exact pg_le' h
  · rw [LnP_f e]; exact Nat.le_refl _
theorem CInj.cut {L : Nat → Nat} {ch : Nat → Nat → Nat} (hI : CInj L ch) {f n : Nat} (h : n ≤ L f) : CInj (LnP L f n) ch := fun f1 i1 f2 i2 h1 h2 h3 h4 e =>
  hI f1 i1 f2 i2 h1 h2 (Nat.lt_of_lt_of_le h3 (LnP_pg h)) (Nat.lt_of_lt_of_le h4 (LnP_pg h)) e
theorem MCh.cut {g g' : MM} {L : Nat → Nat} {ch : Nat → Nat → Nat} (hC : MCh g L ch) (e5 : mA g' 5 = mA g 5) {f n : Nat} (h : n ≤ L f) : MCh g' (LnP L f n) ch := fun f1 i1 h1 h3 => by
  rw [e5]; exact hC f1 i1 h1 (Nat.lt_of_lt_of_le h3 (LnP_pg h))
theorem NX.cut {L : Nat → Nat} {ch : Nat → Nat → Nat} {f n : Nat} {nx nx' : Nat → Int32} (h : NX 8 L ch nx) (hI : CInj L ch) (hf : f < 8) (hn : n ≤ L f) (hr : ∀ f' i, f' < 8 → i < pg (L f') → ch f' i < 101)
    (h1 : ∀ i, pg n ≤ i + 1 → i < pg (L f) → nx' (ch f i) = 0) (h2 : ∀ x, x < 101 → (∀ i, pg n ≤ i + 1 → i < pg (L f) → ch f i ≠ x) → nx' x = nx x) : NX 8 (LnP L f n) ch nx' := by
  constructor
  · intro f' i hf' hi
    have hi2 := Nat.lt_of_lt_of_le hi (LnP_pg hn)
    rw [h2 _ (hr f' i hf' (by omega)) (fun i' a b e => ?_)]
    · exact h.1 f' i hf' hi2
    · have z := hI f i' f' i hf hf' b (by omega) e
      obtain ⟨rfl, rfl⟩ := z
      rw [LnP_i] at hi; omega
  · intro p hp hno
    by_cases e : ∃ i, pg n ≤ i + 1 ∧ i < pg (L f) ∧ ch f i = p
    · obtain ⟨i, a, b, rfl⟩ := e
      exact h1 i a b
    · rw [h2 p hp (fun i a b z => e ⟨i, a, b, z⟩)]
      refine h.2 p hp (fun f' i hf' hi z => ?_)
      by_cases ef : f' = f
      · subst ef
        by_cases ei : i + 1 < pg n
        · exact hno f' i hf' (by rw [LnP_i]; exact ei) z
        · exact e ⟨i, by omega, by omega, z⟩
      · exact hno f' i hf' (by rw [LnP_f ef]; exact hi) z
theorem used_cut {g g' : MM} {L : Nat → Nat} {ch : Nat → Nat → Nat} {f n : Nat} (hC : MCh g L ch) (hC' : MCh g' (LnP L f n) ch) (hI : CInj L ch) (hf : f < 8) (hn : n ≤ L f) {us us' : Nat → Int32} (hu : ∀ x, x < 101 → us x = bI (mUsed g L (nI x)))
    (h1 : ∀ i, pg n ≤ i → i < pg (L f) → us' (ch f i) = 0) (h2 : ∀ x, x < 101 → (∀ i, pg n ≤ i → i < pg (L f) → ch f i ≠ x) → us' x = us x) {x : Nat} (hx : x < 101) : us' x = bI (mUsed g' (LnP L f n) (nI x)) := by
  by_cases e : ∃ i, pg n ≤ i ∧ i < pg (L f) ∧ ch f i = x
  · obtain ⟨i, a, b, rfl⟩ := e
    rw [h1 i a b]
    have : mUsed g' (LnP L f n) (nI (ch f i)) = false := by
      rw [Bool.eq_false_iff]
      intro z
      obtain ⟨f', i', hf', hi', e⟩ := (mUsed_ch hC' hx).mp z
      obtain ⟨rfl, rfl⟩ := hI f' i' f i hf' hf (Nat.lt_of_lt_of_le hi' (LnP_pg hn)) b e
      rw [LnP_i] at hi'; omega
    rw [this]; rfl
  · rw [h2 x hx (fun i a b z => e ⟨i, a, b, z⟩), hu x hx]
    refine congrArg bI ?_
    rw [Bool.eq_iff_iff, mUsed_ch hC hx, mUsed_ch hC' hx]
    constructor
    · rintro ⟨f', i, hf', hi, z⟩
      refine ⟨f', i, hf', ?_, z⟩
      by_cases ef : f' = f
      · subst ef
        rw [LnP_i]
        by_cases ei : i < pg n
        · exact ei
        · exact absurd ⟨i, by omega, hi, z⟩ e
      · rw [LnP_f ef]; exact hi
    · rintro ⟨f', i, hf', hi, z⟩
      exact ⟨f', i, hf', Nat.lt_of_lt_of_le hi (LnP_pg hn), z⟩
/-! what Directory.cut does -/
def cCutW (c : CC) (j p : Nat) : CC := if cI c 13 j = nI p then sI (sI c 13 j (-1)) 14 j 0 else c
def cCutS (c : CC) (j p : Nat) : CC := sA (sA (cCutW c j p) 7 0 (upd (cA (cCutW c j p) 7 0) p 0)) 8 0 (upd (cA (cCutW c j p) 8 0) p 0)
def cCutN (c : CC) (j : Nat) (k : Nat → Nat) (k0 : Nat) : Nat → CC
  | 0 => c
  | t + 1 => cCutS (cCutN c j k k0 t) j (k (k0 + t))
def cCut1 (c : CC) (k : Nat → Nat) (k0 n : Nat) : CC := if 0 < k0 ∧ k0 < n then sA c 7 0 (upd (cA c 7 0) (k (k0 - 1)) 0) else c
def cCut0 (c : CC) (j : Nat) (k : Nat → Nat) (k0 n : Nat) : CC := if k0 = 0 then sI (cCut1 c k k0 n) 11 j 0 else cCut1 c k k0 n
def cCut (c : CC) (j : Nat) (k : Nat → Nat) (k0 n : Nat) : CC := cCutN (cCut0 c j k k0 n) j k k0 (n - k0)
theorem cCutW_o (c : CC) (j p : Nat) : cA (cCutW c j p) = cA c ∧ cR (cCutW c j p) = cR c ∧ cN (cCutW c j p) = cN c ∧ cL (cCutW c j p) = cL c ∧ cJ (cCutW c j p) = cJ c ∧ ∀ k i, (k ≠ 13 ∧ k ≠ 14) ∨ i ≠ j → cI (cCutW c j p) k i = cI c k i := by
  unfold cCutW; split
  · refine ⟨rfl, rfl, rfl, rfl, rfl, fun k i h => ?_⟩
    rw [cI_I, cI_I]
    rcases h with h | h
    · rw [if_neg h.2, if_neg h.1]
    · rw [if_neg h, if_neg h]; split <;> split <;> rfl
  · exact ⟨rfl, rfl, rfl, rfl, rfl, fun _ _ _ => rfl⟩
theorem cCutS_o (c : CC) (j p : Nat) : cR (cCutS c j p) = cR c ∧ cN (cCutS c j p) = cN c ∧ cL (cCutS c j p) = cL c ∧ cJ (cCutS c j p) = cJ c ∧ (∀ k i, (k ≠ 13 ∧ k ≠ 14) ∨ i ≠ j → cI (cCutS c j p) k i = cI c k i) ∧ (∀ k, k ≠ 7 → k ≠ 8 → cA (cCutS c j p) k = cA c k) ∧ cA (cCutS c j p) 7 0 = upd (cA c 7 0) p 0 ∧ cA (cCutS c j p) 8 0 = upd (cA c 8 0) p 0 ∧ cI (cCutS c j p) = cI (cCutW c j p) := by
  have h := cCutW_o c j p
  refine ⟨h.2.1, h.2.2.1, h.2.2.2.1, h.2.2.2.2.1, h.2.2.2.2.2, fun k h7 h8 => ?_, ?_, ?_, rfl⟩
  · funext i; unfold cCutS; rw [cA_A, if_neg h8, cA_A, if_neg h7, h.1]
  · unfold cCutS; rw [cA_A, if_neg (by decide), cA_A, if_pos rfl, if_pos rfl, h.1]
  · unfold cCutS; rw [cA_A, if_pos rfl, if_pos rfl, h.1]
theorem cCutN_o (c : CC) (j : Nat) (k : Nat → Nat) (k0 t : Nat) : cR (cCutN c j k k0 t) = cR c ∧ cN (cCutN c j k k0 t) = cN c ∧ cL (cCutN c j k k0 t) = cL c ∧ cJ (cCutN c j k k0 t) = cJ c ∧ (∀ k' i, (k' ≠ 13 ∧ k' ≠ 14) ∨ i ≠ j → cI (cCutN c j k k0 t) k' i = cI c k' i) ∧ (∀ k', k' ≠ 7 → k' ≠ 8 → cA (cCutN c j k k0 t) k' = cA c k') := by
  induction t with
  | zero => exact ⟨rfl, rfl, rfl, rfl, fun _ _ _ => rfl, fun _ _ _ => rfl⟩
  | succ t ih =>
    have h := cCutS_o (cCutN c j k k0 t) j (k (k0 + t))
    exact ⟨h.1.trans ih.1, h.2.1.trans ih.2.1, h.2.2.1.trans ih.2.2.1, h.2.2.2.1.trans ih.2.2.2.1, fun k' i hk => (h.2.2.2.2.1 k' i hk).trans (ih.2.2.2.2.1 k' i hk), fun k' h7 h8 => (h.2.2.2.2.2.1 k' h7 h8).trans (ih.2.2.2.2.2 k' h7 h8)⟩
theorem cCutN_78 (c : CC) (j : Nat) (k : Nat → Nat) (k0 : Nat) (q : Nat) (hq : q = 7 ∨ q = 8) (t : Nat) : (∀ s, s < t → cA (cCutN c j k k0 t) q 0 (k (k0 + s)) = 0) ∧ ∀ x, (∀ s, s < t → k (k0 + s) ≠ x) → cA (cCutN c j k k0 t) q 0 x = cA c q 0 x := by
  induction t with
  | zero => exact ⟨fun s h => absurd h (Nat.not_lt_zero _), fun _ _ => rfl⟩
  | succ t ih =>
    have h := cCutS_o (cCutN c j k k0 t) j (k (k0 + t))
    have e : cA (cCutN c j k k0 (t + 1)) q 0 = upd (cA (cCutN c j k k0 t) q 0) (k (k0 + t)) 0 := by
      rcases hq with rfl | rfl
      · exact h.2.2.2.2.2.2.1
      · exact h.2.2.2.2.2.2.2.1
    rw [e]
    refine ⟨fun s hs => ?_, fun x hx => ?_⟩
    · rw [upd_at]
      split
      · rfl
      · next hne =>
        exact ih.1 s (by have : s ≠ t := fun z => hne (by rw [z])
                         omega)
    · rw [upd_at, if_neg (fun z => hx t (by omega) z.symm)]
      exact ih.2 x (fun s hs => hx s (by omega))
theorem cut_win {c : CC} {g : MM} {j f : Nat} {k : Nat → Nat} {k0 n : Nat} (h : RW c g j f) (h5 : ∀ i, i < n → mA g 5 (64 * f + i) = nI (k i)) (hk : ∀ i, i < n → k i < 101) (t : Nat) : k0 + t ≤ n → RW (cCutN c j k k0 t) (mShN g f k0 t) j f := by
  induction t with
  | zero => exact fun _ => h
  | succ t ih =>
    intro hn
    have ih' := ih (by omega)
    have e5 : mA (mShN g f k0 t) 5 (64 * f + (k0 + t)) = nI (k (k0 + t)) := by rw [mShN_A g f k0 (by decide) (by decide) t, h5 _ (by omega)]
    rw [cCutN, mShN, e5]
    generalize cCutN c j k k0 t = c1 at ih' ⊢
    generalize mShN g f k0 t = g1 at ih' ⊢
    have ho := cCutS_o c1 j (k (k0 + t))
    obtain ⟨a1, a2, a3, a4, a5⟩ := ih'
    unfold RW
    rw [ho.2.2.2.2.2.2.2.2, ho.2.2.1]
    unfold cCutW
    rw [a1]
    by_cases e : mA g1 6 f = nI (k (k0 + t))
    · rw [if_pos e, if_pos e]
      have z6 : mA (mS (mS g1 6 f (-1)) 8 f 0) 6 f = -1 := by rw [mS, mA_A, if_neg (by decide), mS, mA_A, if_pos rfl, upd_at, if_pos rfl]
      have z8 : mA (mS (mS g1 6 f (-1)) 8 f 0) 8 f = 0 := by rw [mS, mA_A, if_pos rfl, upd_at, if_pos rfl]
      rw [z6, z8]
      refine ⟨?_, ?_, .inl rfl, fun z => absurd rfl z, fun z => absurd rfl z⟩
      · rw [cI_I, if_neg (by decide), cI_I, if_pos rfl, if_pos rfl]
      · rw [cI_I, if_pos rfl, if_pos rfl]
    · rw [if_neg e, if_neg e]
      exact ⟨a1, a2, a3, a4, a5⟩
theorem cCut0_o (c : CC) (j : Nat) (k : Nat → Nat) (k0 n : Nat) : cR (cCut0 c j k k0 n) = cR c ∧ cN (cCut0 c j k k0 n) = cN c ∧ cL (cCut0 c j k k0 n) = cL c ∧ cJ (cCut0 c j k k0 n) = cJ c ∧ (∀ k' i, k' ≠ 11 ∨ i ≠ j → cI (cCut0 c j k k0 n) k' i = cI c k' i) ∧ (cI (cCut0 c j k k0 n) 11 j = if k0 = 0 then 0 else cI c 11 j) ∧ (∀ k', k' ≠ 7 → cA (cCut0 c j k k0 n) k' = cA c k') ∧ cA (cCut0 c j k k0 n) 7 0 = if 0 < k0 ∧ k0 < n then upd (cA c 7 0) (k (k0 - 1)) 0 else cA c 7 0 := by
  have h1 : cR (cCut1 c k k0 n) = cR c ∧ cN (cCut1 c k k0 n) = cN c ∧ cL (cCut1 c k k0 n) = cL c ∧ cJ (cCut1 c k k0 n) = cJ c ∧ cI (cCut1 c k k0 n) = cI c ∧ (∀ k', k' ≠ 7 → cA (cCut1 c k k0 n) k' = cA c k') ∧ cA (cCut1 c k k0 n) 7 0 = if 0 < k0 ∧ k0 < n then upd (cA c 7 0) (k (k0 - 1)) 0 else cA c 7 0 := by
    unfold cCut1
    by_cases e : 0 < k0 ∧ k0 < n
    · rw [if_pos e, if_pos e]
      refine ⟨rfl, rfl, rfl, rfl, rfl, fun k' hk => ?_, ?_⟩
      · funext i; rw [cA_A, if_neg hk]
      · rw [cA_A, if_pos rfl, if_pos rfl]
    · rw [if_neg e, if_neg e]
      exact ⟨rfl, rfl, rfl, rfl, rfl, fun _ _ => rfl, rfl⟩
  unfold cCut0
  generalize cCut1 c k k0 n = c1 at h1 ⊢
  by_cases e : k0 = 0
  · rw [if_pos e, if_pos e]
    refine ⟨h1.1, h1.2.1, h1.2.2.1, h1.2.2.2.1, fun k' i hk => ?_, ?_, h1.2.2.2.2.2.1, h1.2.2.2.2.2.2⟩
    · rw [cI_I, h1.2.2.2.2.1]
      by_cases z : k' = 11
      · rw [if_pos z, if_neg (by rcases hk with hk | hk
                                 · exact absurd z hk
                                 · exact hk)]
      · rw [if_neg z]
    · rw [cI_I, if_pos rfl, if_pos rfl]
  · rw [if_neg e, if_neg e]
    exact ⟨h1.1, h1.2.1, h1.2.2.1, h1.2.2.2.1, fun k' i _ => by rw [h1.2.2.2.2.1], by rw [h1.2.2.2.2.1], h1.2.2.2.2.2.1, h1.2.2.2.2.2.2⟩
/-- the cells behind a cut -/
theorem cCut_o {c : CC} {j : Nat} {k : Nat → Nat} {k0 n : Nat} (h : k0 ≤ n) : cR (cCut c j k k0 n) = cR c ∧ cN (cCut c j k k0 n) = cN c ∧ cL (cCut c j k k0 n) = cL c ∧ cJ (cCut c j k k0 n) = cJ c ∧ (∀ k' i, (k' ≠ 11 ∧ k' ≠ 13 ∧ k' ≠ 14) ∨ i ≠ j → cI (cCut c j k k0 n) k' i = cI c k' i) ∧ (cI (cCut c j k k0 n) 11 j = if k0 = 0 then 0 else cI c 11 j) ∧ (∀ k', k' ≠ 7 → k' ≠ 8 → cA (cCut c j k k0 n) k' = cA c k') ∧
    (∀ i, k0 ≤ i → i < n → cA (cCut c j k k0 n) 8 0 (k i) = 0) ∧ (∀ x, (∀ i, k0 ≤ i → i < n → k i ≠ x) → cA (cCut c j k k0 n) 8 0 x = cA c 8 0 x) ∧ (∀ i, k0 ≤ i + 1 → i < n → k0 < n → cA (cCut c j k k0 n) 7 0 (k i) = 0) ∧ (∀ x, (∀ i, k0 ≤ i + 1 → i < n → k i ≠ x) → cA (cCut c j k k0 n) 7 0 x = cA c 7 0 x) ∧ (k0 = n → cA (cCut c j k k0 n) 7 0 = cA c 7 0) := by
  have h0 := cCut0_o c j k k0 n
  have h1 := cCutN_o (cCut0 c j k k0 n) j k k0 (n - k0)
  have h7 := cCutN_78 (cCut0 c j k k0 n) j k k0 7 (.inl rfl) (n - k0)
  have h8 := cCutN_78 (cCut0 c j k k0 n) j k k0 8 (.inr rfl) (n - k0)
  unfold cCut
  refine ⟨h1.1.trans h0.1, h1.2.1.trans h0.2.1, h1.2.2.1.trans h0.2.2.1, h1.2.2.2.1.trans h0.2.2.2.1, fun k' i hk => ?_, ?_, fun k' a b => (h1.2.2.2.2.2 k' a b).trans (h0.2.2.2.2.2.2.1 k' a), fun i a b => ?_, fun x hx => ?_, fun i a b d => ?_, fun x hx => ?_, fun e => ?_⟩
  · rw [h1.2.2.2.2.1 k' i (by omega), h0.2.2.2.2.1 k' i (by omega)]
  · rw [h1.2.2.2.2.1 11 j (by omega), h0.2.2.2.2.2.1]
  · have := h8.1 (i - k0) (by omega); rwa [show k0 + (i - k0) = i by omega] at this
  · rw [h8.2 x (fun s hs => hx _ (by omega) (by omega)), h0.2.2.2.2.2.2.1 8 (by decide)]
  · by_cases e : k0 ≤ i
    · have := h7.1 (i - k0) (by omega); rwa [show k0 + (i - k0) = i by omega] at this
    · by_cases z : ∃ s, s < n - k0 ∧ k (k0 + s) = k i
      · obtain ⟨s, hs, es⟩ := z
        rw [← es]; exact h7.1 s hs
      · rw [h7.2 _ (fun s hs es => z ⟨s, hs, es⟩), h0.2.2.2.2.2.2.2, if_pos ⟨by omega, by omega⟩, upd_at, if_pos (by rw [show i = k0 - 1 by omega])]
  · rw [h7.2 x (fun s hs => hx _ (by omega) (by omega)), h0.2.2.2.2.2.2.2]
    by_cases e : 0 < k0 ∧ k0 < n
    · rw [if_pos e, upd_at, if_neg (fun z => hx (k0 - 1) (by omega) (by omega) z.symm)]
    · rw [if_neg e]
  · subst e
    rw [Nat.sub_self]
    show cA (cCut0 c j k k0 k0) 7 0 = _
    rw [h0.2.2.2.2.2.2.2, if_neg (by omega)]
/-- the last page of a chain leads nowhere -/
theorem NX.last {L : Nat → Nat} {ch : Nat → Nat → Nat} {nx : Nat → Int32} (h : NX 8 L ch nx) (hI : CInj L ch) {f i : Nat} (hf : f < 8) (hi : i + 1 = pg (L f)) (hr : ch f i < 101) : nx (ch f i) = 0 :=
  h.2 _ hr (fun f' i' hf' hi' e => by
    obtain ⟨rfl, rfl⟩ := hI f' i' f i hf' hf (by omega) (by omega) e
    omega)
theorem R1.cut {c : CC} {g : MM} {fo : Nat → Option Nat} {L : Nat → Nat} {ch : Nat → Nat → Nat} {f j n : Nat} {k : Nat → Nat} (h : R1 c g fo L ch) (hf : f < 8) (hj : fo f = some j) (hn : n ≤ L f) (hk : ∀ i, i < pg (L f) → k i = ch f i) : R1 (sI (cCut c j k (pg n) (pg (L f))) 12 j (nI n)) (mShorten g L f n) fo (LnP L f n) ch := by
  have hpg : pg n ≤ pg (L f) := pg_le' hn
  have ho := cCut_o (c := c) (j := j) (k := k) hpg
  obtain ⟨hE, hW⟩ := (h.2.2.1 f hf).2 j hj
  obtain ⟨hM, hC, hI⟩ := h.2.2.2.1
  obtain ⟨hX, hU⟩ := h.2.2.2.2
  have hr : ∀ f' i, f' < 8 → i < pg (L f') → ch f' i < 101 := fun f' i a b => (hC f' i a b).2.2
  have e4 : mA (mShorten g L f n) 4 = upd (mA g 4) f (nI n) := by
    unfold mShorten; rw [mS, mA_A, if_pos rfl, mShN_A _ _ _ (by decide) (by decide)]
  have eA : ∀ q, q ≠ 4 → q ≠ 6 → q ≠ 8 → mA (mShorten g L f n) q = mA g q := fun q a b d => by
    unfold mShorten; rw [mS, mA_A, if_neg a, mShN_A _ _ _ b d]
  have hC' : MCh (mShorten g L f n) (LnP L f n) ch := hC.cut (eA 5 (by decide) (by decide) (by decide)) hn
  have eJ : mJ (mShorten g L f n) = mJ g := by
    unfold mShorten
    show mJ (mShN g f (pg n) (pg (L f) - pg n)) = mJ g
    generalize pg (L f) - pg n = t
    induction t with
    | zero => rfl
    | succ t ih => rw [mShN]; split <;> exact ih
  have e68 : ∀ q f', q = 6 ∨ q = 8 → f' ≠ f → mA (mShorten g L f n) q f' = mA g q f' := fun q f' hq hne => by
    unfold mShorten; rw [mS, mA_A, if_neg (by omega)]
    generalize pg (L f) - pg n = t
    induction t with
    | zero => rfl
    | succ t ih =>
      rw [mShN]
      split
      · rw [mS, mA_A, mS]
        split
        · next z => subst z; rw [upd_at, if_neg hne, mA_A, if_neg (by decide)]; exact ih
        · rw [mA_A]
          split
          · next z => subst z; rw [upd_at, if_neg hne]; exact ih
          · exact ih
      · exact ih
  refine h.chg hf hj (by show cR (cCut c j k (pg n) (pg (L f))) 6 = _; rw [ho.1]) (by show cN (cCut c j k (pg n) (pg (L f))) 17 = _; rw [ho.2.1]) (fun q i a b d => ?_) (fun i _ => by show cL (cCut c j k (pg n) (pg (L f))) 1 i = _; rw [ho.2.2.1]) (fun q f' hq hne => ?_) (fun f' _ => by rw [eJ]) (fun f' hne => LnP_f hne) (fun _ _ _ => rfl) ?_ ?_ ⟨?_, hC', hI.cut hn⟩ ⟨?_, fun x hx => ⟨?_, ?_⟩⟩
  · rw [cI_I]
    have z := ho.2.2.2.2.1 q i (.inr d)
    rw [if_neg d]
    split <;> exact z
  · rcases hq with rfl | hq
    · rw [eA 3 (by decide) (by decide) (by decide)]
    · exact e68 q f' hq hne
  · obtain ⟨a1, a2, a3, a4⟩ := hE
    refine ⟨by rw [eA 3 (by decide) (by decide) (by decide)]; exact a1, ?_, ?_, ?_⟩
    · rw [cI_I, if_neg (by decide), ho.2.2.2.2.1 10 j (by omega), eA 3 (by decide) (by decide) (by decide)]; exact a2
    · rw [cI_I, if_pos rfl, if_pos rfl, LnP_i]
    · rw [cI_I, if_neg (by decide), ho.2.2.2.2.2.1, LnP_i]
      by_cases z : pg n = 0
      · rw [if_pos z, if_pos z]
      · rw [if_neg z, if_neg z, a4, if_neg (by omega)]
  · have hw0 : RW (cCut0 c j k (pg n) (pg (L f))) g j f := by
      have z := cCut0_o c j k (pg n) (pg (L f))
      unfold RW
      rw [z.2.2.2.2.1 13 j (by omega), z.2.2.2.2.1 14 j (by omega), z.2.2.1]; exact hW
    have hw := cut_win (n := pg (L f)) (k0 := pg n) (k := k) hw0 (fun i hi => by rw [hk i hi]; exact (hC f i hf hi).1) (fun i hi => by rw [hk i hi]; exact hr f i hf hi) (pg (L f) - pg n) (by omega)
    exact hw
  · intro f' hf'
    rw [e4, upd_at]
    by_cases z : f' = f
    · subst z; rw [if_pos rfl, LnP_i]; exact ⟨rfl, Nat.le_trans hn (hM f' hf).2⟩
    · rw [if_neg z, LnP_f z]; exact hM f' hf'
  · refine hX.cut hI hf hn hr (fun i a b => ?_) (fun x hx hne => ?_)
    · show cA (cCut c j k (pg n) (pg (L f))) 7 0 (ch f i) = 0
      by_cases e : pg n < pg (L f)
      · rw [← hk i b]; exact ho.2.2.2.2.2.2.2.2.2.1 i a b e
      · rw [ho.2.2.2.2.2.2.2.2.2.2.2 (by omega)]
        exact hX.last hI hf (by omega) (hr f i hf b)
    · exact ho.2.2.2.2.2.2.2.2.2.2.1 x (fun i a b => by rw [hk i b]; exact hne i a b)
  · exact used_cut hC hC' hI hf hn (fun x hx => (hU x hx).1) (us' := cA (cCut c j k (pg n) (pg (L f))) 8 0) (fun i a b => by rw [← hk i b]; exact ho.2.2.2.2.2.2.2.1 i a b) (fun x hx hne => ho.2.2.2.2.2.2.2.2.1 x (fun i a b => by rw [hk i b]; exact hne i a b)) hx
  · rw [eA 9 (by decide) (by decide) (by decide)]
    show cA (cCut c j k (pg n) (pg (L f))) 9 0 x = _ ∧ _
    rw [ho.2.2.2.2.2.2.1 9 (by decide) (by decide)]; exact (hU x hx).2
theorem rup_at (f : Nat → Option Nat) (t : Nat) (x : Option Nat) (j : Nat) : rup f t x j = if j = t then x else f j := rfl
/-- a file without pages goes -/
theorem R1.rem {c c' : CC} {g : MM} {fo : Nat → Option Nat} {L : Nat → Nat} {ch : Nat → Nat → Nat} {f j : Nat} (h : R1 c g fo L ch) (hf : f < 8) (hj : fo f = some j) (h0 : L f = 0) (eR : cR c' 6 0 = rup (cR c 6 0) f none) (eN : cN c' 17 = cN c 17) (eI : ∀ k i, 10 ≤ k → k ≤ 14 → i ≠ j → cI c' k i = cI c k i) (eL : cL c' 1 = cL c 1) (eA : ∀ k, 7 ≤ k → k ≤ 9 → cA c' k = cA c k) : R1 c' (mDrop g f) (rup fo f none) L ch := by
  obtain ⟨h1, h2, h3, h4, h5⟩ := h
  have eq : ∀ q, q ≠ 3 → q ≠ 4 → q ≠ 6 → q ≠ 8 → mA (mDrop g f) q = mA g q := fun q a b d e => by
    unfold mDrop; rw [mS, mA_A, if_neg e, mS, mA_A, if_neg d, mS, mA_A, if_neg b, mS, mA_A, if_neg a]
  have e3 : mA (mDrop g f) 3 = upd (mA g 3) f 0 := rfl
  have e4 : mA (mDrop g f) 4 = upd (mA g 4) f 0 := rfl
  have e6 : mA (mDrop g f) 6 = upd (mA g 6) f (-1) := rfl
  have e8 : mA (mDrop g f) 8 = upd (mA g 8) f 0 := rfl
  have eJ : mJ (mDrop g f) = mJ g := rfl
  refine ⟨fun f' hf' => ?_, fun f1 f2 j' a b d e => ?_, fun f' hf' => ⟨fun e => ?_, fun j' hj' => ?_⟩, ⟨fun f' hf' => ?_, h4.2.1.of (eq 5 (by decide) (by decide) (by decide) (by decide)), h4.2.2⟩, h5.of eA (eq 5 (by decide) (by decide) (by decide) (by decide)) (eq 9 (by decide) (by decide) (by decide) (by decide))⟩
  · rw [eR, eN]
    by_cases z : f' = f
    · subst z; rw [rup_at, rup_at, if_pos rfl, if_pos rfl]; exact ⟨rfl, fun j h => by cases h⟩
    · rw [rup_at, rup_at, if_neg z, if_neg z]; exact h1 f' hf'
  · rw [rup_at] at d e
    by_cases z1 : f1 = f
    · rw [if_pos z1] at d; cases d
    · by_cases z2 : f2 = f
      · rw [if_pos z2] at e; cases e
      · rw [if_neg z1] at d; rw [if_neg z2] at e; exact h2 f1 f2 j' a b d e
  · rw [rup_at] at e
    rw [e3, e8, upd_at, upd_at]
    by_cases z : f' = f
    · subst z; rw [if_pos rfl, if_pos rfl]; exact ⟨rfl, h0, rfl⟩
    · rw [if_neg z] at e; rw [if_neg z, if_neg z]; exact (h3 f' hf').1 e
  · rw [rup_at] at hj'
    by_cases z : f' = f
    · rw [if_pos z] at hj'; cases hj'
    · rw [if_neg z] at hj'
      have hjn : j' ≠ j := fun y => z (h2 f' f j hf' hf (y ▸ hj') hj)
      obtain ⟨a, b⟩ := (h3 f' hf').2 j' hj'
      unfold RE RW at *
      rw [e3, e6, e8, eJ, upd_at, upd_at, upd_at, if_neg z, if_neg z, if_neg z, eI 10 j' (by omega) (by omega) hjn, eI 11 j' (by omega) (by omega) hjn, eI 12 j' (by omega) (by omega) hjn, eI 13 j' (by omega) (by omega) hjn, eI 14 j' (by omega) (by omega) hjn, eL]
      exact ⟨a, b⟩
  · rw [e4, upd_at]
    by_cases z : f' = f
    · subst z; rw [if_pos rfl, h0]; exact ⟨rfl, by omega⟩
    · rw [if_neg z]; exact h4.1 f' hf'
