/-! the relation between the component and the model; by hand -/
/-- a file's entry -/
def RE (c : CC) (g : MM) (L : Nat → Nat) (ch : Nat → Nat → Nat) (j f : Nat) : Prop := ¬ mA g 3 f = 0 ∧ cI c 10 j = mA g 3 f ∧ cI c 12 j = nI (L f) ∧ cI c 11 j = if pg (L f) = 0 then 0 else nI (ch f 0)
/-- a file's window -/
def RW (c : CC) (g : MM) (j f : Nat) : Prop := cI c 13 j = mA g 6 f ∧ cI c 14 j = mA g 8 f ∧ B01 (mA g 8 f) ∧ (¬ mA g 6 f = -1 → cL c 1 j = mJ g 7 f) ∧ (¬ mA g 8 f = 0 → ∃ p, 40 ≤ p ∧ p < 101 ∧ mA g 6 f = nI p)
def FIn (fo : Nat → Option Nat) : Prop := ∀ f f' j, f < 8 → f' < 8 → fo f = some j → fo f' = some j → f = f'
/-- the files -/
def RFs (c : CC) (g : MM) (fo : Nat → Option Nat) (L : Nat → Nat) (ch : Nat → Nat → Nat) : Prop := ∀ f, f < 8 → (fo f = none → mA g 3 f = 0 ∧ L f = 0 ∧ mA g 8 f = 0) ∧ ∀ j, fo f = some j → RE c g L ch j f ∧ RW c g j f
/-- chains -/
def RH (g : MM) (L : Nat → Nat) (ch : Nat → Nat → Nat) : Prop := MLn g L ∧ MCh g L ch ∧ CInj L ch
/-- the directory's pages -/
def RP (c : CC) (g : MM) (L : Nat → Nat) (ch : Nat → Nat → Nat) : Prop := NX 8 L ch (cA c 7 0) ∧ ∀ p, p < 101 → cA c 8 0 p = bI (mUsed g L (nI p)) ∧ cA c 9 0 p = mA g 9 p ∧ B01 (mA g 9 p)
def R1 (c : CC) (g : MM) (fo : Nat → Option Nat) (L : Nat → Nat) (ch : Nat → Nat → Nat) : Prop := FOk c fo ∧ FIn fo ∧ RFs c g fo L ch ∧ RH g L ch ∧ RP c g L ch
/-- the current image and its turn -/
def RC (c : CC) (g : MM) (cu tn : Nat) : Prop := cI c 5 0 = nI cu ∧ mI g 6 = nI cu ∧ cu < 2 ∧ cI c 6 0 = nI tn ∧ mI g 7 = nI tn ∧ tn < 256
/-- requests and answers -/
def RQ (c : CC) (g : MM) (q qa : Nat) (ap zq za : Nat → Nat) : Prop := (mI g 8 = nI q ∧ q ≤ 16 ∧ cI c 8 0 = nI q) ∧ (mI g 9 = nI qa ∧ qa ≤ 16 ∧ cI c 8 1 = nI qa) ∧
  (∀ t, t < q → cR c 14 0 t = some (zq t) ∧ zq t < cN c 19 0 ∧ cI c 15 (zq t) = nI (ap t) ∧ mA g 12 t = nI (ap t) ∧ ap t < 101 ∧ cI c 16 (zq t) = mA g 13 t ∧ B01 (mA g 13 t) ∧ cL c 2 (zq t) = mJ g 14 t ∧ cI c 17 (zq t) = 0 ∧ ∀ t', t' < q → zq t = zq t' → t = t') ∧
  ∀ t, t < qa → cR c 14 1 t = some (za t) ∧ za t < cN c 19 0 ∧ cL c 3 (za t) = mJ g 16 t
/-- what holds at all times of the component's own shape -/
def RS (c : CC) : Prop := (∀ i j z, cR c 4 i j = some z → z < cN c 15 0) ∧ (∀ i j z, cR c 6 i j = some z → z < cN c 17 0) ∧ (∀ i j z, cR c 14 i j = some z → z < cN c 19 0) ∧ (∀ i, i < 2 → cR c 10 0 i = some i) ∧ ∀ i, i < 2 → ∃ q, cI c 8 i = nI q ∧ q ≤ 16 ∧ q ≤ cN c 14 i ∧ cN c 14 i ≤ 30
theorem mUsed_iff (g : MM) (L : Nat → Nat) (p : Int32) : mUsed g L p = true ↔ ∃ f i, f < 8 ∧ i < pg (L f) ∧ mA g 5 (64 * f + i) = p := by
  unfold mUsed uO uI
  simp only [List.any_eq_true, List.mem_range, decide_eq_true_eq]
  constructor
  · rintro ⟨f, hf, i, hi, e⟩; exact ⟨f, i, hf, hi, e⟩
  · rintro ⟨f, i, hf, hi, e⟩; exact ⟨f, hf, i, hi, e⟩
theorem mUsed_ch {g : MM} {L : Nat → Nat} {ch : Nat → Nat → Nat} (hC : MCh g L ch) {p : Nat} (hp : p < 101) : mUsed g L (nI p) = true ↔ ∃ f i, f < 8 ∧ i < pg (L f) ∧ ch f i = p := by
  rw [mUsed_iff]
  constructor
  · rintro ⟨f, i, hf, hi, e⟩
    have z := hC f i hf hi
    rw [z.1] at e
    exact ⟨f, i, hf, hi, (nI_eq (by omega) (by omega)).mp e⟩
  · rintro ⟨f, i, hf, hi, rfl⟩
    exact ⟨f, i, hf, hi, (hC f i hf hi).1⟩
theorem mUsed_cg {g g' : MM} {L : Nat → Nat} (e : mA g' 5 = mA g 5) (p : Int32) : mUsed g' L p = mUsed g L p := by
  unfold mUsed uO uI; rw [e]
/-- R1 looks at these cells only -/
theorem R1.of {c c' : CC} {g g' : MM} {fo : Nat → Option Nat} {L : Nat → Nat} {ch : Nat → Nat → Nat} (h : R1 c g fo L ch) (eR : cR c' 6 = cR c 6) (eN : cN c' 17 = cN c 17) (eI : ∀ k, 10 ≤ k → k ≤ 14 → cI c' k = cI c k) (eL : cL c' 1 = cL c 1) (eA : ∀ k, 7 ≤ k → k ≤ 9 → cA c' k = cA c k) (fA : ∀ k, 3 ≤ k → k ≤ 9 → mA g' k = mA g k) (fJ : mJ g' 7 = mJ g 7) : R1 c' g' fo L ch := by
  obtain ⟨h1, h2, h3, ⟨h4, h5, h6⟩, h7, h8⟩ := h
  refine ⟨fun f hf => ?_, h2, fun f hf => ⟨fun e => ?_, fun j hj => ?_⟩, ⟨h4.of (fA 4 (by omega) (by omega)), h5.of (fA 5 (by omega) (by omega)), h6⟩, ?_, fun p hp => ?_⟩
  · rw [eR, eN]; exact h1 f hf
  · rw [fA 3 (by omega) (by omega), fA 8 (by omega) (by omega)]; exact (h3 f hf).1 e
  · obtain ⟨a, b⟩ := (h3 f hf).2 j hj
    unfold RE RW at *
    rw [fA 3 (by omega) (by omega), fA 6 (by omega) (by omega), fA 8 (by omega) (by omega), eI 10 (by omega) (by omega), eI 11 (by omega) (by omega), eI 12 (by omega) (by omega), eI 13 (by omega) (by omega), eI 14 (by omega) (by omega), eL, fJ]
    exact ⟨a, b⟩
  · rw [eA 7 (by omega) (by omega)]; exact h7
  · rw [eA 8 (by omega) (by omega), eA 9 (by omega) (by omega), fA 9 (by omega) (by omega), mUsed_cg (fA 5 (by omega) (by omega))]; exact h8 p hp
/-- chip and power alone may have changed -/
def Tr (c c' : CC) : Prop := cA c' = cA c ∧ cR c' = cR c ∧ cN c' = cN c ∧ (∀ k, k ≠ 2 → k ≠ 3 → k ≠ 4 → cI c' k = cI c k) ∧ ∀ k, k ≠ 0 → cL c' k = cL c k
def Tm (g g' : MM) : Prop := mA g' = mA g ∧ (∀ k, k ≠ 2 → k ≠ 3 → k ≠ 4 → mI g' k = mI g k) ∧ ∀ k, k ≠ 2 → mJ g' k = mJ g k
theorem Tr.refl (c : CC) : Tr c c := ⟨rfl, rfl, rfl, fun _ _ _ _ => rfl, fun _ _ => rfl⟩
theorem Tm.refl (g : MM) : Tm g g := ⟨rfl, fun _ _ _ _ => rfl, fun _ _ => rfl⟩
theorem Tr.trans {a b c : CC} (h : Tr a b) (k : Tr b c) : Tr a c := ⟨k.1.trans h.1, k.2.1.trans h.2.1, k.2.2.1.trans h.2.2.1, fun i h2 h3 h4 => (k.2.2.2.1 i h2 h3 h4).trans (h.2.2.2.1 i h2 h3 h4), fun i h0 => (k.2.2.2.2 i h0).trans (h.2.2.2.2 i h0)⟩
theorem Tm.trans {a b c : MM} (h : Tm a b) (k : Tm b c) : Tm a c := ⟨k.1.trans h.1, fun i h2 h3 h4 => (k.2.1 i h2 h3 h4).trans (h.2.1 i h2 h3 h4), fun i h0 => (k.2.2 i h0).trans (h.2.2 i h0)⟩
theorem R1.tr {c c' : CC} {g g' : MM} {fo : Nat → Option Nat} {L : Nat → Nat} {ch : Nat → Nat → Nat} (h : R1 c g fo L ch) (t : Tr c c') (u : Tm g g') : R1 c' g' fo L ch :=
  h.of (by rw [t.2.1]) (by rw [t.2.2.1]) (fun k h1 h2 => t.2.2.2.1 k (by omega) (by omega) (by omega)) (t.2.2.2.2 1 (by decide)) (fun k _ _ => by rw [t.1]) (fun k _ _ => by rw [u.1]) (u.2.2 7 (by decide))
theorem RC.of {c c' : CC} {g g' : MM} {cu tn : Nat} (h : RC c g cu tn) (e5 : cI c' 5 = cI c 5) (e6 : cI c' 6 = cI c 6) (f6 : mI g' 6 = mI g 6) (f7 : mI g' 7 = mI g 7) : RC c' g' cu tn := by
  unfold RC at *; rw [e5, e6, f6, f7]; exact h
theorem RC.tr {c c' : CC} {g g' : MM} {cu tn : Nat} (h : RC c g cu tn) (t : Tr c c') (u : Tm g g') : RC c' g' cu tn :=
  h.of (t.2.2.2.1 5 (by decide) (by decide) (by decide)) (t.2.2.2.1 6 (by decide) (by decide) (by decide)) (u.2.1 6 (by decide) (by decide) (by decide)) (u.2.1 7 (by decide) (by decide) (by decide))
theorem RQ.of {c c' : CC} {g g' : MM} {q qa : Nat} {ap zq za : Nat → Nat} (h : RQ c g q qa ap zq za) (eR : cR c' 14 = cR c 14) (eN : cN c' 19 = cN c 19) (e8 : cI c' 8 = cI c 8) (eI : ∀ k, 15 ≤ k → k ≤ 17 → cI c' k = cI c k) (eL : cL c' 2 = cL c 2 ∧ cL c' 3 = cL c 3) (f8 : mI g' 8 = mI g 8 ∧ mI g' 9 = mI g 9) (fA : mA g' 12 = mA g 12 ∧ mA g' 13 = mA g 13) (fJ : mJ g' 14 = mJ g 14 ∧ mJ g' 16 = mJ g 16) : RQ c' g' q qa ap zq za := by
  unfold RQ at *
  rw [eR, eN, e8, eI 15 (by omega) (by omega), eI 16 (by omega) (by omega), eI 17 (by omega) (by omega), eL.1, eL.2, f8.1, f8.2, fA.1, fA.2, fJ.1, fJ.2]; exact h
theorem RQ.tr {c c' : CC} {g g' : MM} {q qa : Nat} {ap zq za : Nat → Nat} (h : RQ c g q qa ap zq za) (t : Tr c c') (u : Tm g g') : RQ c' g' q qa ap zq za :=
  h.of (by rw [t.2.1]) (by rw [t.2.2.1]) (t.2.2.2.1 8 (by decide) (by decide) (by decide)) (fun k _ _ => t.2.2.2.1 k (by omega) (by omega) (by omega)) ⟨t.2.2.2.2 2 (by decide), t.2.2.2.2 3 (by decide)⟩ ⟨u.2.1 8 (by decide) (by decide) (by decide), u.2.1 9 (by decide) (by decide) (by decide)⟩ ⟨by rw [u.1], by rw [u.1]⟩ ⟨u.2.2 14 (by decide), u.2.2 16 (by decide)⟩
theorem RS.of {c c' : CC} (h : RS c) (eR : cR c' = cR c) (eN : cN c' = cN c) (e8 : cI c' 8 = cI c 8) : RS c' := by
  unfold RS at *; rw [eR, eN, e8]; exact h
theorem RS.tr {c c' : CC} (h : RS c) (t : Tr c c') : RS c' := h.of t.2.1 t.2.2.1 (t.2.2.2.1 8 (by decide) (by decide) (by decide))
/-! transfers: chip and power -/
theorem Tr.wr (c : CC) (lp mp : Nat → Nat) (p : Nat) (v : Int64) (x : Int32) : Tr c (cWrN (cTurn (cSpd c) x) lp mp p v 64) := by
  have ho := cWrN_o (cTurn (cSpd c) x) lp mp p v 64
  generalize cWrN (cTurn (cSpd c) x) lp mp p v 64 = y at ho ⊢
  refine ⟨by rw [ho.2.2.1]; rfl, by rw [ho.2.2.2.1]; rfl, by rw [ho.2.2.2.2]; rfl, fun k h2 h3 h4 => ?_, fun k h0 => ?_⟩
  · rw [ho.1]; funext i; simp [cTurn, cSpd, cI, sI, sL, up2, h2, h3, h4]
  · rw [ho.2.1]; funext i; simp [cTurn, cSpd, cL, sI, sL, up2, h0]
theorem Tr.rd (c : CC) (x : Int32) : Tr c (cTurn (cSpd c) x) := by
  refine ⟨rfl, rfl, rfl, fun k h2 h3 h4 => ?_, fun k h0 => ?_⟩
  · funext i; simp [cTurn, cSpd, cI, sI, sL, up2, h2, h3, h4]
  · funext i; simp [cTurn, cSpd, cL, sI, sL, up2, h0]
theorem Tr.off (c : CC) : Tr c (cOff c) := by
  refine ⟨rfl, rfl, rfl, fun k h2 h3 h4 => ?_, fun k h0 => rfl⟩
  funext i; simp [cOff, cI, sI, up2, h4]
theorem mGoes_J (m : MM) (x : Int32) : mJ (mGoes m x) = mJ m := by
  unfold mGoes; split
  · unfold mGo1; split <;> rfl
  · rfl
theorem Tm.wr (g : MM) (p : Nat) (v : Int64) : Tm g (mWrite g p v) := by
  refine ⟨mWrite_A g p v, fun k h2 h3 h4 => mWrite_I g p v h2 h3 h4, fun k h => ?_⟩
  unfold mWrite; split
  · rfl
  · split
    · rw [mGoes_J]
    · funext i; simp [mSJ, mJ, smJ, up1, h]; exact congrFun (congrFun (mGoes_J g (nI p)) k) i
theorem Tm.rd (g : MM) (p : Nat) : Tm g (mRead g p) := by
  refine ⟨?_, fun k h2 h3 h4 => ?_, fun k h => ?_⟩
  · unfold mRead; split
    · rfl
    · exact mGoes_A _ _
  · unfold mRead; split
    · rfl
    · exact mGoes_I _ _ h2 h3 h4
  · unfold mRead; split
    · rfl
    · rw [mGoes_J]
theorem R0.wr {c : CC} {lp mp : Nat → Nat} {g : MM} (h : R0 c lp g) (hw : PW g) (hD : Dat c lp mp (mJ g 2)) {p : Nat} (hp : p < 101) (v : Int64) : R0 (cWrN (cTurn (cSpd c) (nI p)) lp mp p v 64) lp (mWrite g p v) := by
  rw [mWrite_pw hw]
  exact ((h.spend hw.1).turn hp).write (hD.of rfl rfl rfl) hp v
theorem R0.rd {c : CC} {lp : Nat → Nat} {g : MM} (h : R0 c lp g) (hw : PW g) {p : Nat} (hp : p < 101) : R0 (cTurn (cSpd c) (nI p)) lp (mRead g p) := by
  rw [(mRead_pw hw p).1]
  exact (h.spend hw.1).turn hp
theorem mWrite_onP {g : MM} (hw : PW g) (p : Nat) (v : Int64) : ¬ mI (mWrite g p v) 4 = 0 := by
  rw [mWrite_pw hw]; exact hw.1
theorem mRead_on {g : MM} (hw : PW g) (p : Nat) : ¬ mI (mRead g p) 4 = 0 := by
  rw [(mRead_pw hw p).1]; exact hw.1
theorem R0.wr0 {c : CC} {lp : Nat → Nat} {g : MM} (h : R0 c lp g) (ho : ¬ mI g 4 = 0) (h0 : mI g 3 = 0) (p : Nat) (v : Int64) : R0 (cOff c) lp (mWrite g p v) ∧ mI (mWrite g p v) 4 = 0 := by
  rw [mWrite_no ho h0]; exact ⟨h.off, rfl⟩
theorem R0.rd0 {c : CC} {lp : Nat → Nat} {g : MM} (h : R0 c lp g) (ho : ¬ mI g 4 = 0) (h0 : mI g 3 = 0) (p : Nat) : R0 (cOff c) lp (mRead g p) ∧ mI (mRead g p) 4 = 0 := by
  rw [mRead_no ho h0]; exact ⟨h.off, rfl⟩
/-- once power is off the model's image writes do nothing more -/
theorem mWrN_off {g : MM} {ot t : Nat} (h : mI (mWrN g ot t) 4 = 0) : ∀ n, mWrN g ot (t + n) = mWrN g ot t
  | 0 => rfl
  | n + 1 => by
    have ih := mWrN_off h n
    rw [show t + (n + 1) = (t + n) + 1 from rfl, mWrN, ih, mWrite_off h]
theorem mWrN_end {g : MM} {ot t : Nat} (h : mI (mWrN g ot t) 4 = 0) {N : Nat} (ht : t ≤ N) : mWrN g ot N = mWrN g ot t := by
  have := mWrN_off h (N - t); rwa [show t + (N - t) = N by omega] at this
theorem Tm.wrN (g : MM) (ot : Nat) : ∀ t, Tm g (mWrN g ot t)
  | 0 => Tm.refl g
  | t + 1 => (Tm.wrN g ot t).trans (Tm.wr _ _ _)
theorem mBits_wd (m : MM) (p : Nat) : mBits m p = wdD (mA m 10) p 8 0 := by rw [mBits, mBitsD_wd]
/-- the model's saves once power is off -/
theorem mSave_off {g : MM} (h : mI g 4 = 0) (f : Nat) : mSave g f = if mA g 8 f = 0 then g else mS g 8 f 0 := by
  unfold mSave; rw [mWrite_off h]
/-! one file changes -/
theorem R1.chg {c c' : CC} {g g' : MM} {fo : Nat → Option Nat} {L L' : Nat → Nat} {ch ch' : Nat → Nat → Nat} {f j : Nat} (h : R1 c g fo L ch) (hf : f < 8) (hj : fo f = some j) (eR : cR c' 6 = cR c 6) (eN : cN c' 17 = cN c 17)
    (eI : ∀ k i, 10 ≤ k → k ≤ 14 → i ≠ j → cI c' k i = cI c k i) (eL : ∀ i, i ≠ j → cL c' 1 i = cL c 1 i) (fA : ∀ k f', k = 3 ∨ k = 6 ∨ k = 8 → f' ≠ f → mA g' k f' = mA g k f') (fJ : ∀ f', f' ≠ f → mJ g' 7 f' = mJ g 7 f')
    (hL : ∀ f', f' ≠ f → L' f' = L f') (hch : ∀ f' i, f' ≠ f → ch' f' i = ch f' i) (hE : RE c' g' L' ch' j f) (hW : RW c' g' j f) (hH : RH g' L' ch') (hP : RP c' g' L' ch') : R1 c' g' fo L' ch' := by
  obtain ⟨h1, h2, h3, -, -⟩ := h
  refine ⟨fun f' hf' => ?_, h2, fun f' hf' => ⟨fun e => ?_, fun j' hj' => ?_⟩, hH, hP⟩
  · rw [eR, eN]; exact h1 f' hf'
  · have hne : f' ≠ f := fun z => by rw [z, hj] at e; cases e
    rw [fA 3 f' (by omega) hne, fA 8 f' (by omega) hne, hL f' hne]; exact (h3 f' hf').1 e
  · by_cases hne : f' = f
    · subst hne
      rw [hj] at hj'; cases hj'
      exact ⟨hE, hW⟩
    · have hjn : j' ≠ j := fun z => hne (h2 f' f j hf' hf (z ▸ hj') hj)
      obtain ⟨a, b⟩ := (h3 f' hf').2 j' hj'
      unfold RE RW at *
      rw [fA 3 f' (by omega) hne, fA 6 f' (by omega) hne, fA 8 f' (by omega) hne, fJ f' hne, hL f' hne, hch f' 0 hne, eI 10 j' (by omega) (by omega) hjn, eI 11 j' (by omega) (by omega) hjn, eI 12 j' (by omega) (by omega) hjn, eI 13 j' (by omega) (by omega) hjn, eI 14 j' (by omega) (by omega) hjn, eL j' hjn]
      exact ⟨a, b⟩
theorem RP.of {c c' : CC} {g g' : MM} {L : Nat → Nat} {ch : Nat → Nat → Nat} (h : RP c g L ch) (eA : ∀ k, 7 ≤ k → k ≤ 9 → cA c' k = cA c k) (f5 : mA g' 5 = mA g 5) (f9 : mA g' 9 = mA g 9) : RP c' g' L ch := by
  refine ⟨by rw [eA 7 (by omega) (by omega)]; exact h.1, fun p hp => ?_⟩
  rw [eA 8 (by omega) (by omega), eA 9 (by omega) (by omega), f9, mUsed_cg f5]; exact h.2 p hp
theorem RH.of {g g' : MM} {L : Nat → Nat} {ch : Nat → Nat → Nat} (h : RH g L ch) (f4 : mA g' 4 = mA g 4) (f5 : mA g' 5 = mA g 5) : RH g' L ch := ⟨h.1.of f4, h.2.1.of f5, h.2.2⟩
/-- a file's window changes, nothing else -/
theorem R1.win {c c' : CC} {g g' : MM} {fo : Nat → Option Nat} {L : Nat → Nat} {ch : Nat → Nat → Nat} {f j : Nat} (h : R1 c g fo L ch) (hf : f < 8) (hj : fo f = some j) (eR : cR c' 6 = cR c 6) (eN : cN c' 17 = cN c 17)
    (eI0 : ∀ k, 10 ≤ k → k ≤ 12 → cI c' k = cI c k) (eI : ∀ k i, 13 ≤ k → k ≤ 14 → i ≠ j → cI c' k i = cI c k i) (eL : ∀ i, i ≠ j → cL c' 1 i = cL c 1 i) (eA : ∀ k, 7 ≤ k → k ≤ 9 → cA c' k = cA c k) (fA0 : ∀ k, k = 3 ∨ k = 4 ∨ k = 5 ∨ k = 9 → mA g' k = mA g k) (fA : ∀ k f', k = 6 ∨ k = 8 → f' ≠ f → mA g' k f' = mA g k f') (fJ : ∀ f', f' ≠ f → mJ g' 7 f' = mJ g 7 f')
    (hW : RW c' g' j f) : R1 c' g' fo L ch := by
  have hE := ((h.2.2.1 f hf).2 j hj).1
  refine h.chg hf hj eR eN (fun k i h1 h2 h3 => ?_) eL (fun k f' hk hn => ?_) fJ (fun _ _ => rfl) (fun _ _ _ => rfl) ?_ hW (h.2.2.2.1.of (fA0 4 (by omega)) (fA0 5 (by omega))) (h.2.2.2.2.of eA (fA0 5 (by omega)) (fA0 9 (by omega)))
  · by_cases e : k ≤ 12
    · rw [eI0 k h1 e]
    · exact eI k i (by omega) h2 h3
  · rcases hk with rfl | hk
    · rw [fA0 3 (by omega)]
    · exact fA k f' hk hn
  · unfold RE at *
    rw [fA0 3 (by omega), eI0 10 (by omega) (by omega), eI0 11 (by omega) (by omega), eI0 12 (by omega) (by omega)]; exact hE
/-- pages fit -/
theorem pigeon : ∀ (m n : Nat) (k : Nat → Nat), (∀ i, i < n → k i < m) → (∀ i j, i < n → j < n → k i = k j → i = j) → n ≤ m
  | 0, n, k, h, _ => by
    by_cases e : n = 0
    · omega
    · exact absurd (h 0 (by omega)) (Nat.not_lt_zero _)
  | m + 1, n, k, h, hi => by
    by_cases e : ∃ i, i < n ∧ k i = m
    · obtain ⟨i0, h0, e0⟩ := e
      have z := pigeon m (n - 1) (fun i => if i < i0 then k i else k (i + 1)) (fun i hi9 => by
        show (if i < i0 then k i else k (i + 1)) < m
        split
        · have a := h i (by omega)
          have b : k i ≠ m := fun z => by have := hi i i0 (by omega) h0 (by omega); omega
          omega
        · have a := h (i + 1) (by omega)
          have b : k (i + 1) ≠ m := fun z => by have := hi (i + 1) i0 (by omega) h0 (by omega); omega
          omega) (fun i j h1 h2 he => by
        split at he <;> split at he
        · exact hi i j (by omega) (by omega) he
        · have := hi i (j + 1) (by omega) (by omega) he; omega
        · have := hi (i + 1) j (by omega) (by omega) he; omega
        · have := hi (i + 1) (j + 1) (by omega) (by omega) he; omega)
      omega
    · have z := pigeon m n k (fun i hi9 => by
        have a := h i hi9
        have b : k i ≠ m := fun z => e ⟨i, hi9, z⟩
        omega) hi
      omega
theorem pages_fit {L : Nat → Nat} {ch : Nat → Nat → Nat} (hI : CInj L ch) {f : Nat} (hf : f < 8) (hr : ∀ i, i < pg (L f) → 40 ≤ ch f i ∧ ch f i < 101) : pg (L f) ≤ 61 :=
  pigeon 61 (pg (L f)) (fun i => ch f i - 40) (fun i hi => by have := hr i hi; show ch f i - 40 < 61; omega) (fun i j h1 h2 e => by
    have a := hr i h1; have b := hr j h2
    exact (hI f i f j hf hf h1 h2 (by omega)).2)
/-! a page comes into a chain -/
def chP (ch : Nat → Nat → Nat) (f n p : Nat) : Nat → Nat → Nat := fun f' i => if f' = f ∧ i = n then p else ch f' i
theorem chP_in (ch : Nat → Nat → Nat) (f n p : Nat) : chP ch f n p f n = p := if_pos ⟨rfl, rfl⟩
theorem chP_f {ch : Nat → Nat → Nat} {f n p f' i : Nat} (h : f' ≠ f) : chP ch f n p f' i = ch f' i := if_neg fun z => h z.1
theorem chP_i {ch : Nat → Nat → Nat} {f n p f' i : Nat} (h : i ≠ n) : chP ch f n p f' i = ch f' i := if_neg fun z => h z.2
theorem CInj.put {L L' : Nat → Nat} {ch : Nat → Nat → Nat} {f n p : Nat} (hI : CInj L ch) (hL : ∀ f', f' ≠ f → L' f' = L f') (hn' : pg (L' f) = n + 1) (hn : n ≤ pg (L f)) (hfree : ∀ f' i, f' < 8 → i < pg (L f') → ch f' i ≠ p) : CInj L' (chP ch f n p) := by
  intro f1 i1 f2 i2 h1 h2 h3 h4 e
  by_cases a : f1 = f ∧ i1 = n
  · obtain ⟨rfl, rfl⟩ := a
    rw [chP_in] at e
    by_cases b : f2 = f1 ∧ i2 = i1
    · exact ⟨b.1.symm, b.2.symm⟩
    · rw [chP, if_neg b] at e
      refine absurd e.symm (hfree f2 i2 h2 ?_)
      by_cases z : f2 = f1
      · subst z
        have : i2 ≠ i1 := fun y => b ⟨rfl, y⟩
        omega
      · rw [← hL f2 z]; exact h4
  · rw [chP, if_neg a] at e
    have q1 : i1 < pg (L f1) := by
      by_cases z : f1 = f
      · subst z
        have : i1 ≠ n := fun y => a ⟨rfl, y⟩
        omega
      · rw [← hL f1 z]; exact h3
    by_cases b : f2 = f ∧ i2 = n
    · obtain ⟨rfl, rfl⟩ := b
      rw [chP_in] at e
      exact absurd e (hfree f1 i1 h1 q1)
    · rw [chP, if_neg b] at e
      refine hI f1 i1 f2 i2 h1 h2 q1 ?_ e
      by_cases z : f2 = f
      · subst z
        have : i2 ≠ n := fun y => b ⟨rfl, y⟩
        omega
      · rw [← hL f2 z]; exact h4
theorem NX.put {L L' : Nat → Nat} {ch : Nat → Nat → Nat} {f n p : Nat} {nx nx' : Nat → Int32} (h : NX 8 L ch nx) (hI : CInj L ch) (hf : f < 8) (hL : ∀ f', f' ≠ f → L' f' = L f') (hn' : pg (L' f) = n + 1) (hn : n ≤ pg (L f)) (hn2 : pg (L f) ≤ n + 1) (hfree : ∀ f' i, f' < 8 → i < pg (L f') → ch f' i ≠ p)
    (hx : ∀ x, x < 101 → nx' x = if 0 < n ∧ x = ch f (n - 1) then nI p else if x = p then 0 else if pg (L f) = n + 1 ∧ x = ch f n then 0 else nx x) (hr : ∀ f' i, f' < 8 → i < pg (L f') → ch f' i < 101) : NX 8 L' (chP ch f n p) nx' := by
  constructor
  · intro f' i hf' hi
    by_cases e : f' = f
    · subst e
      have hin : i < n := by omega
      rw [chP_i (by omega), hx _ (hr f' i hf' (by omega))]
      by_cases e1 : i + 1 = n
      · rw [if_pos ⟨by omega, by rw [show n - 1 = i by omega]⟩, e1, chP_in]
      · rw [if_neg (fun z => by have := (hI f' i f' (n - 1) hf' hf' (by omega) (by omega) z.2).2; omega), if_neg (hfree f' i hf' (by omega)), if_neg (fun z => by have := (hI f' i f' n hf' hf' (by omega) (by omega) z.2).2; omega), chP_i e1]
        exact h.1 f' i hf' (by omega)
    · rw [hL f' e] at hi
      rw [chP_f e, chP_f e, hx _ (hr f' i hf' (by omega)), if_neg (fun z => e (hI f' i f (n - 1) hf' hf (by omega) (by omega) z.2).1), if_neg (hfree f' i hf' (by omega)), if_neg (fun z => e (hI f' i f n hf' hf (by omega) (by omega) z.2).1)]
      exact h.1 f' i hf' hi
  · intro q hq hno
    rw [hx q hq]
    by_cases e1 : 0 < n ∧ q = ch f (n - 1)
    · exact absurd e1.2.symm (by have := hno f (n - 1) hf (by omega); rwa [chP_i (by omega)] at this)
    · rw [if_neg e1]
      split
      · rfl
      · split
        · rfl
        · refine h.2 q hq (fun f' i hf' hi => ?_)
          by_cases e : f' = f
          · subst e
            have := hno f' i hf' (by omega)
            rwa [chP_i (by omega)] at this
          · have := hno f' i hf' (by rw [hL f' e]; exact hi)
            rwa [chP_f e] at this
theorem used_put {g g' : MM} {L L' : Nat → Nat} {ch : Nat → Nat → Nat} {f n p : Nat} (hC : MCh g L ch) (hC' : MCh g' L' (chP ch f n p)) (hI : CInj L ch) (hf : f < 8) (hL : ∀ f', f' ≠ f → L' f' = L f') (hn' : pg (L' f) = n + 1) (hn : n ≤ pg (L f)) (hn2 : pg (L f) ≤ n + 1) (hfree : ∀ f' i, f' < 8 → i < pg (L f') → ch f' i ≠ p) {x : Nat} (hx : x < 101) :
    mUsed g' L' (nI x) = if x = p then true else if pg (L f) = n + 1 ∧ x = ch f n then false else mUsed g L (nI x) := by
  have h1 := mUsed_ch hC hx
  have h2 := mUsed_ch hC' hx
  by_cases e1 : x = p
  · rw [if_pos e1, h2]
    exact ⟨f, n, hf, by omega, by rw [chP_in, e1]⟩
  · rw [if_neg e1]
    by_cases e2 : pg (L f) = n + 1 ∧ x = ch f n
    · rw [if_pos e2, Bool.eq_false_iff]
      intro z
      obtain ⟨f', i, hf', hi, e⟩ := h2.mp z
      by_cases a : f' = f ∧ i = n
      · obtain ⟨rfl, rfl⟩ := a
        rw [chP_in] at e; exact e1 e.symm
      · rw [chP, if_neg a] at e
        refine a (hI f' i f n hf' hf ?_ (by omega) (e.trans e2.2))
        by_cases b : f' = f
        · subst b; omega
        · rw [← hL f' b]; exact hi
    · rw [if_neg e2, Bool.eq_iff_iff, h1, h2]
      constructor
      · rintro ⟨f', i, hf', hi, e⟩
        by_cases a : f' = f ∧ i = n
        · obtain ⟨rfl, rfl⟩ := a
          rw [chP_in] at e; exact absurd e.symm e1
        · rw [chP, if_neg a] at e
          refine ⟨f', i, hf', ?_, e⟩
          by_cases b : f' = f
          · subst b
            have : i ≠ n := fun y => a ⟨rfl, y⟩
            omega
          · rw [← hL f' b]; exact hi
      · rintro ⟨f', i, hf', hi, e⟩
        have a : ¬ (f' = f ∧ i = n) := fun z => by
          obtain ⟨rfl, rfl⟩ := z
          exact e2 ⟨by omega, e.symm⟩
        refine ⟨f', i, hf', ?_, by rw [chP, if_neg a]; exact e⟩
        by_cases b : f' = f
        · subst b
          have : i ≠ n := fun y => a ⟨rfl, y⟩
          omega
        · rw [hL f' b]; exact hi
