/-! images: what pack and makeImage leave; by hand -/
def cPkN (A : Nat → Int32) (nm fs ln : Nat → Int32) : Nat → Nat → Int32
  | 0 => A
  | k + 1 => pB (pB (pB (cPkN A nm fs ln k) (1 + 7 * k) (nm k).toInt64 4) (1 + 7 * k + 4) (fs k).toInt64 1) (1 + 7 * k + 5) (ln k).toInt64 2
def cLkN (A : Nat → Int32) (nx : Nat → Int32) : Nat → Nat → Int32
  | 0 => A
  | k + 1 => pB (cLkN A nx k) (57 + k) (nx k).toInt64 1
/-- what pack leaves in the bytes -/
def cPk1 (A : Nat → Int32) (x : Int32) (nm fs ln nx : Nat → Int32) : Nat → Int32 := cLkN (cPkN (pB A 0 x.toInt64 1) nm fs ln 8) nx 101
def cPk (A : Nat → Int32) (x : Int32) (nm fs ln nx : Nat → Int32) : Nat → Int32 := pB (cPk1 A x nm fs ln nx) 158 (cSum (cPk1 A x nm fs ln nx)).toInt64 2
/-- the bytes of an image -/
def imE (nm fs ln : Nat → Int32) (u : Nat) : Int32 := if u % 7 < 4 then mByte (nm (u / 7)).toInt64 (u % 7) else if u % 7 = 4 then mByte (fs (u / 7)).toInt64 0 else mByte (ln (u / 7)).toInt64 (u % 7 - 5)
def im0 (x : Int32) (nm fs ln nx : Nat → Int32) (t : Nat) : Int32 := if t = 0 then mByte x.toInt64 0 else if t < 57 then imE nm fs ln (t - 1) else mByte (nx (t - 57)).toInt64 0
def imB (x : Int32) (nm fs ln nx : Nat → Int32) (t : Nat) : Int32 := if t < 158 then im0 x nm fs ln nx t else mByte (cSum (im0 x nm fs ln nx)).toInt64 (t - 158)
theorem cPkN_at (A nm fs ln : Nat → Int32) (t : Nat) : ∀ k, cPkN A nm fs ln k t = if 1 ≤ t ∧ t < 1 + 7 * k then imE nm fs ln (t - 1) else A t
  | 0 => by rw [if_neg (by omega)]; rfl
  | k + 1 => by
    rw [cPkN, pB_at, pB_at, pB_at, cPkN_at A nm fs ln t k]
    by_cases h1 : 1 + 7 * k + 5 ≤ t ∧ t < 1 + 7 * k + 5 + 2
    · rw [if_pos h1, if_pos (by omega), imE, if_neg (by omega), if_neg (by omega), show (t - 1) / 7 = k by omega, show (t - 1) % 7 - 5 = t - (1 + 7 * k + 5) by omega]
    · rw [if_neg h1]
      by_cases h2 : 1 + 7 * k + 4 ≤ t ∧ t < 1 + 7 * k + 4 + 1
      · rw [if_pos h2, if_pos (by omega), imE, if_neg (by omega), if_pos (by omega), show (t - 1) / 7 = k by omega, show t - (1 + 7 * k + 4) = 0 by omega]
      · rw [if_neg h2]
        by_cases h3 : 1 + 7 * k ≤ t ∧ t < 1 + 7 * k + 4
        · rw [if_pos h3, if_pos (by omega), imE, if_pos (by omega), show (t - 1) / 7 = k by omega, show (t - 1) % 7 = t - (1 + 7 * k) by omega]
        · rw [if_neg h3]
          by_cases h4 : 1 ≤ t ∧ t < 1 + 7 * k
          · rw [if_pos h4, if_pos (by omega)]
          · rw [if_neg h4, if_neg (by omega)]
theorem cLkN_at (A nx : Nat → Int32) (t : Nat) : ∀ k, cLkN A nx k t = if 57 ≤ t ∧ t < 57 + k then mByte (nx (t - 57)).toInt64 0 else A t
  | 0 => by rw [if_neg (by omega)]; rfl
  | k + 1 => by
    rw [cLkN, pB_at, cLkN_at A nx t k]
    by_cases h1 : 57 + k ≤ t ∧ t < 57 + k + 1
    · rw [if_pos h1, if_pos (by omega), show t - 57 = k by omega, show t - (57 + k) = 0 by omega]
    · rw [if_neg h1]
      by_cases h4 : 57 ≤ t ∧ t < 57 + k
      · rw [if_pos h4, if_pos (by omega)]
      · rw [if_neg h4, if_neg (by omega)]
theorem sN1_cg {A B : Nat → Int32} : ∀ k, (∀ t, t < k → A t = B t) → sN1 A k = sN1 B k
  | 0, _ => rfl
  | k + 1, h => by rw [sN1, sN1, sN1_cg k (fun t ht => h t (by omega)), h k (by omega)]
theorem cSum_cg {A B : Nat → Int32} (h : ∀ t, t < 158 → A t = B t) : cSum A = cSum B := by rw [cSum, cSum, sN1_cg 158 h]
theorem cPk1_at (A : Nat → Int32) (x : Int32) (nm fs ln nx : Nat → Int32) {t : Nat} (ht : t < 158) : cPk1 A x nm fs ln nx t = im0 x nm fs ln nx t := by
  rw [cPk1, cLkN_at, cPkN_at, pB_at, im0]
  by_cases h1 : t = 0
  · rw [if_neg (by omega), if_neg (by omega), if_pos (by omega), if_pos h1, show t - 0 = 0 by omega]
  · rw [if_neg h1]
    by_cases h2 : t < 57
    · rw [if_neg (by omega), if_pos (by omega), if_pos h2]
    · rw [if_pos (by omega), if_neg h2]
theorem cPk_at (A : Nat → Int32) (x : Int32) (nm fs ln nx : Nat → Int32) {t : Nat} (ht : t < 160) : cPk A x nm fs ln nx t = imB x nm fs ln nx t := by
  rw [cPk, pB_at, imB]
  by_cases h1 : t < 158
  · rw [if_neg (by omega), if_pos h1, cPk1_at A x nm fs ln nx h1]
  · rw [if_pos (by omega), if_neg h1, cSum_cg (fun t ht => cPk1_at A x nm fs ln nx ht)]
theorem imE_cg {nm fs ln nm' fs' ln' : Nat → Int32} (h1 : ∀ f, f < 8 → nm f = nm' f) (h2 : ∀ f, f < 8 → fs f = fs' f) (h3 : ∀ f, f < 8 → ln f = ln' f) {u : Nat} (hu : u < 56) : imE nm fs ln u = imE nm' fs' ln' u := by
  rw [imE, imE, h1 _ (by omega), h2 _ (by omega), h3 _ (by omega)]
theorem im0_cg {x : Int32} {nm fs ln nx nm' fs' ln' nx' : Nat → Int32} (h1 : ∀ f, f < 8 → nm f = nm' f) (h2 : ∀ f, f < 8 → fs f = fs' f) (h3 : ∀ f, f < 8 → ln f = ln' f) (h4 : ∀ p, p < 101 → nx p = nx' p) {t : Nat} (ht : t < 158) : im0 x nm fs ln nx t = im0 x nm' fs' ln' nx' t := by
  rw [im0, im0]
  by_cases e : t = 0
  · rw [if_pos e, if_pos e]
  · rw [if_neg e, if_neg e]
    by_cases e2 : t < 57
    · rw [if_pos e2, if_pos e2, imE_cg h1 h2 h3 (by omega)]
    · rw [if_neg e2, if_neg e2, h4 _ (by omega)]
theorem imB_cg {x : Int32} {nm fs ln nx nm' fs' ln' nx' : Nat → Int32} (h1 : ∀ f, f < 8 → nm f = nm' f) (h2 : ∀ f, f < 8 → fs f = fs' f) (h3 : ∀ f, f < 8 → ln f = ln' f) (h4 : ∀ p, p < 101 → nx p = nx' p) (t : Nat) : imB x nm fs ln nx t = imB x nm' fs' ln' nx' t := by
  rw [imB, imB]
  by_cases e : t < 158
  · rw [if_pos e, if_pos e, im0_cg h1 h2 h3 h4 e]
  · rw [if_neg e, if_neg e, cSum_cg (fun t ht => im0_cg h1 h2 h3 h4 ht)]
theorem im0_byte (x : Int32) (nm fs ln nx : Nat → Int32) (t : Nat) : ∃ b, b < 256 ∧ im0 x nm fs ln nx t = nI b := by
  unfold im0 imE
  split
  · exact mByte_lt _ (by omega)
  · split
    · split
      · exact mByte_lt _ (by omega)
      · split
        · exact mByte_lt _ (by omega)
        · exact mByte_lt _ (by omega)
    · exact mByte_lt _ (by omega)
theorem imB_byte (x : Int32) (nm fs ln nx : Nat → Int32) {t : Nat} (ht : t < 160) : ∃ b, b < 256 ∧ imB x nm fs ln nx t = nI b := by
  unfold imB
  split
  · exact im0_byte _ _ _ _ _ _
  · exact mByte_lt _ (by omega)
theorem byt_of {A : Nat → Int32} {N : Nat} (h : ∀ t, t < N → ∃ b, b < 256 ∧ A t = nI b) : ∃ f, Byt A f N := by
  refine ⟨fun t => (A t).toBitVec.toNat, fun t ht => ?_⟩
  obtain ⟨b, hb, e⟩ := h t ht
  have z : (A t).toBitVec.toNat = b := by rw [e, pk_tn (by omega)]
  show A t = nI (A t).toBitVec.toNat ∧ (A t).toBitVec.toNat < 256
  rw [z]; exact ⟨e, hb⟩
theorem wdD_cg {A B : Nat → Int32} {p : Nat} : ∀ s x, (∀ t, t < s → A (8 * p + t) = B (8 * p + t)) → wdD A p s x = wdD B p s x
  | 0, _, _ => rfl
  | s + 1, x, h => by rw [wdD, wdD, h s (by omega), wdD_cg s _ (fun t ht => h t (by omega))]
/-! the model's image -/
def mFs (m : MM) (L : Nat → Nat) (f : Nat) : Int32 := if pg (L f) = 0 then 0 else mA m 5 (64 * f)
theorem mImN_10 (m : MM) (L : Nat → Nat) (ch : Nat → Nat → Nat) : ∀ n, mA (mImN m L ch n) 10 = cPkN (mA m 10) (mA m 3) (mFs m L) (mA m 4) n
  | 0 => rfl
  | n + 1 => by
    have e3 := mImN_A m L ch (j := 3) (by decide) (by decide) n
    have e4 := mImN_A m L ch (j := 4) (by decide) (by decide) n
    have e5 := mImN_A m L ch (j := 5) (by decide) (by decide) n
    rw [mImN, mImF, cPkN, ← mImN_10 m L ch n]
    simp only [mPutB_10, mPutB_A _ _ _ (show 3 ≠ 10 by decide), mPutB_A _ _ _ (show 4 ≠ 10 by decide), mPutB_A _ _ _ (show 5 ≠ 10 by decide), mLk_A _ _ _ (show 3 ≠ 11 by decide), mLk_A _ _ _ (show 4 ≠ 11 by decide), mLk_A _ _ _ (show 5 ≠ 11 by decide), mLk_A _ _ _ (show 10 ≠ 11 by decide), e3, e4, e5]
    rw [show 5 + 7 * n = 1 + 7 * n + 4 by omega, show 6 + 7 * n = 1 + 7 * n + 5 by omega]
    have ef : (if pg (L n) = 0 then (0 : Int64) else (mA m 5 (64 * n)).toInt64) = (mFs m L n).toInt64 := by unfold mFs; split <;> rfl
    rw [ef]
theorem mLnk_11 (m : MM) : ∀ n, mA (mLnk m n) 11 = mA m 11
  | 0 => rfl
  | n + 1 => by rw [mLnk, mPutB_A _ _ _ (by decide)]; exact mLnk_11 m n
theorem mLnk_10 (m : MM) : ∀ n, mA (mLnk m n) 10 = cLkN (mA m 10) (mA m 11) n
  | 0 => rfl
  | n + 1 => by rw [mLnk, mPutB_10, cLkN, mLnk_10 m n, mLnk_11]
/-- no page lies in two places of the chains -/
def CInj (L : Nat → Nat) (ch : Nat → Nat → Nat) : Prop := ∀ f i f' i', f < 8 → f' < 8 → i < pg (L f) → i' < pg (L f') → ch f i = ch f' i' → f = f' ∧ i = i'
/-- nx leads along the chains, and is 0 elsewhere -/
def NX (n : Nat) (L : Nat → Nat) (ch : Nat → Nat → Nat) (nx : Nat → Int32) : Prop := (∀ f i, f < n → i + 1 < pg (L f) → nx (ch f i) = nI (ch f (i + 1))) ∧ ∀ p, p < 101 → (∀ f i, f < n → i + 1 < pg (L f) → ch f i ≠ p) → nx p = 0
theorem NX.eq {n : Nat} {L : Nat → Nat} {ch : Nat → Nat → Nat} {nx nx' : Nat → Int32} (h : NX n L ch nx) (h' : NX n L ch nx') {p : Nat} (hp : p < 101) : nx p = nx' p := by
  by_cases e : ∃ f i, f < n ∧ i + 1 < pg (L f) ∧ ch f i = p
  · obtain ⟨f, i, hf, hi, rfl⟩ := e
    rw [h.1 f i hf hi, h'.1 f i hf hi]
  · have z : ∀ f i, f < n → i + 1 < pg (L f) → ch f i ≠ p := fun f i hf hi he => e ⟨f, i, hf, hi, he⟩
    rw [h.2 p hp z, h'.2 p hp z]
theorem mLk_out (m : MM) (ch : Nat → Nat → Nat) (f p : Nat) : ∀ n, (∀ i, i < n → ch f i ≠ p) → mA (mLk m ch f n) 11 p = mA m 11 p
  | 0, _ => rfl
  | n + 1, h => by
    rw [mLk, mS, mA_A, if_pos rfl, upd_at, if_neg (fun e => h n (by omega) e.symm)]
    exact mLk_out m ch f p n (fun i hi => h i (by omega))
theorem mLk_in (m : MM) (ch : Nat → Nat → Nat) (f i : Nat) : ∀ n, i < n → (∀ j, j < n → i < j → ch f j ≠ ch f i) → mA (mLk m ch f n) 11 (ch f i) = mA m 5 (64 * f + (i + 1))
  | 0, h, _ => absurd h (Nat.not_lt_zero _)
  | n + 1, h, hj => by
    rw [mLk, mS, mA_A, if_pos rfl, upd_at]
    by_cases e : i = n
    · subst e; rw [if_pos rfl, mLk_A _ _ _ (by decide)]
    · rw [if_neg (fun z => hj n (by omega) (by omega) z.symm)]
      exact mLk_in m ch f i n (by omega) (fun j h1 h2 => hj j (by omega) h2)
theorem mImF_11 (m : MM) (L : Nat → Nat) (ch : Nat → Nat → Nat) (f : Nat) : mA (mImF m L ch f) 11 = mA (mLk m ch f (pg (L f) + (1 - pg (L f)) - 1)) 11 := by
  simp only [mImF]
  rw [mPutB_A _ _ _ (by decide), mPutB_A _ _ _ (by decide), mPutB_A _ _ _ (by decide)]
theorem mBeh0_11 (m : MM) (p : Nat) : ∀ t, p < t → mA (mBeh0 m t) 11 p = 0
  | 0, h => absurd h (Nat.not_lt_zero _)
  | t + 1, h => by
    rw [mBeh0, mS, mA_A, if_pos rfl, upd_at]
    by_cases e : p = t
    · rw [if_pos e]
    · rw [if_neg e]; exact mBeh0_11 m p t (by omega)
theorem mImN_NX {m : MM} {L : Nat → Nat} {ch : Nat → Nat → Nat} (hC : MCh m L ch) (hI : CInj L ch) (h0 : ∀ p, p < 101 → mA m 11 p = 0) : ∀ n, n ≤ 8 → NX n L ch (mA (mImN m L ch n) 11)
  | 0, _ => ⟨fun f i hf => absurd hf (Nat.not_lt_zero _), fun p hp _ => h0 p hp⟩
  | n + 1, hn => by
    have ih := mImN_NX hC hI h0 n (by omega)
    have e5 := mImN_A m L ch (j := 5) (by decide) (by decide) n
    have hN : pg (L n) + (1 - pg (L n)) - 1 = pg (L n) - 1 := by omega
    rw [mImN, mImF_11, hN]
    constructor
    · intro f i hf hi
      by_cases e : f = n
      · subst e
        rw [mLk_in _ _ _ _ _ (by omega) (fun j h1 h2 z => by have := (hI f j f i (by omega) (by omega) (by omega) (by omega) z).2; omega), e5]
        exact (hC f (i + 1) (by omega) hi).1
      · rw [mLk_out _ _ _ _ _ (fun j h1 z => e (hI n j f i (by omega) (by omega) (by omega) (by omega) z).1.symm)]
        exact ih.1 f i (by omega) hi
    · intro p hp h
      rw [mLk_out _ _ _ _ _ (fun j h1 => h n j (by omega) (by omega))]
      exact ih.2 p hp (fun f i hf hi => h f i (by omega) hi)
/-- the image that the model makes -/
theorem mMake_10 {m : MM} {L : Nat → Nat} {ch : Nat → Nat → Nat} (x : Int32) (hC : MCh m L ch) (hI : CInj L ch) {nx : Nat → Int32} (hx : NX 8 L ch nx) {t : Nat} (ht : t < 160) : mA (mMake m L ch x) 10 t = imB x (mA m 3) (mFs m L) (mA m 4) nx t := by
  have hB : NX 8 L ch (mA (mImN (mBeh0 m 101) L ch 8) 11) := mImN_NX (hC.of (mBeh0_A m (by decide) 101)) hI (fun p hp => mBeh0_11 m p 101 hp) 8 (by omega)
  have e3 := mBeh0_A m (j := 3) (by decide) 101
  have e4 := mBeh0_A m (j := 4) (by decide) 101
  have e5 := mBeh0_A m (j := 5) (by decide) 101
  have hfs : mFs (mBeh0 m 101) L = mFs m L := by funext f; unfold mFs; rw [e5]
  have key : ∀ t, t < 158 → mA (mLnk (mPutB (mImN (mBeh0 m 101) L ch 8) 0 x.toInt64 1) 101) 10 t = im0 x (mA m 3) (mFs m L) (mA m 4) nx t := by
    intro t ht
    rw [mLnk_10, cLkN_at, mPutB_A _ _ _ (by decide), mPutB_10, pB_at, mImN_10, cPkN_at, im0, e3, e4, hfs]
    by_cases h1 : t = 0
    · rw [if_neg (by omega), if_pos (by omega), if_pos h1, show t - 0 = 0 by omega]
    · rw [if_neg h1]
      by_cases h2 : t < 57
      · rw [if_neg (by omega), if_neg (by omega), if_pos (by omega), if_pos h2]
      · rw [if_pos (by omega), if_neg h2, hB.eq hx (by omega)]
  simp only [mMake]
  generalize mLnk (mPutB (mImN (mBeh0 m 101) L ch 8) 0 x.toInt64 1) 101 = M at key ⊢
  rw [mPutB_10, pB_at, imB]
  by_cases h1 : t < 158
  · rw [if_neg (by omega), if_pos h1, key t h1]
  · rw [if_pos (by omega), if_neg h1]
    obtain ⟨f, hf⟩ := byt_of (A := mA M 10) (N := 158) (fun t ht => by rw [key t ht]; exact im0_byte _ _ _ _ _ _)
    rw [mSum_N hf (by omega), ← cSum_N hf (by omega), cSum_cg key]
