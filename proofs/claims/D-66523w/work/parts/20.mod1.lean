/-! the model: its small methods. Transcriptions mXxx, contracts c_Mod_xxx; printed by tools/m20.py -/
theorem AW.ls {E : EE} {b : Bool} {cells slots pc : Nat} {w : Wd} {lv : List (Nat × Value)} {st : List Value} (lv2 : List (Nat × Value)) (h : lv2.map (fun q => lvG lv q.1) = lv2.map (fun q => some q.2)) (k : AW E b cells slots w pc lv2 st) : AW E b cells slots w pc lv st := AW.less (List.map_inj_left.mp h) k
def mS (m : MM) (k t : Nat) (v : Int32) : MM := smA m k (upd (mA m k) t v)
def mSJ (m : MM) (k t : Nat) (v : Int64) : MM := smJ m k (vp_updL (mJ m k) t v)
def mStepsTo (m : MM) (x : Int32) : Int32 := x + 101 - mI m 2 - (x + 101 - mI m 2) / 101 * 101
def mTurn (m : MM) (x : Int32) : MM := smI (smL m 0 (mL m 0 + (mStepsTo m x).toInt64)) 2 x
def mGo1 (m : MM) : MM := if mI m 3 = 0 then smI m 4 0 else m
def mSpend (m : MM) : MM := smI m 3 (if mI m 3 ≤ 0 then mI m 3 else mI m 3 - 1)
def mGoes (m : MM) (x : Int32) : MM := if mI (mGo1 m) 4 = 0 then mGo1 m else mTurn (mSpend m) x
def mGoesR (m : MM) : Int32 := if mI (mGo1 m) 4 = 0 then 0 else 1
def mWrite (m : MM) (p : Nat) (v : Int64) : MM := if mI m 4 = 0 then m else if mGoesR m = 0 then mGoes m (nI p) else mSJ (mGoes m (nI p)) 2 p v
def mRead (m : MM) (p : Nat) : MM := if mI m 4 = 0 then m else mGoes m (nI p)
def mReadR (m : MM) (p : Nat) : Int64 := if mI m 4 = 0 then 0 else if mGoesR m = 0 then 0 else mJ (mGoes m (nI p)) 2 p
def mDrop (m : MM) (f : Nat) : MM := mS (mS (mS (mS m 3 f 0) 4 f 0) 6 f (-1)) 8 f 0
def mPower (m : MM) (x : Int32) : MM := smI (smI m 0 0) 3 (if mI m 4 = 0 then mI m 3 else if 0 ≤ x then x else -1)
def mReady (m : MM) : Int32 := if mI m 4 = 0 then 0 else if mI m 5 = 0 then 0 else 1
def mIsFile (m : MM) (x : Int32) : Int32 := if x < 0 then 0 else if 8 ≤ x then 0 else if mA m 3 x.toNatClampNeg = 0 then 0 else 1
theorem rcM {G : GG} {a : AD} {c : CC} {m : MM} {o : OO} : Rcv (wld G a c m o) (a 30 0) "BubbleBoxModel" := ⟨30, 0, 11, _, _, cM_at (j := 0) rfl, rfl, rfl⟩
theorem ix_rng {x : Int32} (h1 : ¬ x < 0) (h2 : ¬ 8 ≤ x) : ∃ f : Nat, f < 8 ∧ x = nI f := by
  rcases pk_ix x (n := 8) (by omega) with h | h | ⟨j, hj, e⟩
  · exact absurd h h1
  · exact absurd h h2
  · exact ⟨j, hj, e⟩
theorem c_Mod_thrown (l : Launch) (G : GG) (a : AD) (c : CC) (m : MM) (o : OO)  : CT l G y_Mod_thrown (.code y_Mod_thrown b_Mod_thrown 1 (some .int)) 0 0 0 Fno (wld G a c m o) [.ref (a 30 0)] (fun r w2 => r = .inl (some (.int (mI m 0))) ∧ w2 = wld G a c m o) := by
  refine CT.of (by decide) (Nat.le_of_ble_eq_true rfl) rfl ?_
  intro E hl hG hF C r hw hex hnm
  subst hl; subst hG
  refine aw_aload_n (i := 0) C (dec D_Mod_thrown rfl) rfl rfl ?_
  refine gf_Mod_71 C (dec D_Mod_thrown rfl) ?_
  refine aw_ret_i C r (dec D_Mod_thrown rfl) rfl (by decide) (by decide) ?_
  first | exact absurd trivial ‹¬True› | exact False.elim ‹False› | (refine ⟨?_, ?_⟩ <;> first | rfl | (simp [mI_I, mL_I, mA_I, mJ_I, mI_L, mL_L, mA_L, mJ_L, mI_A, mL_A, mA_A, mJ_A, mI_J, mL_J, mA_J, mJ_J, cI_I, cL_I, cA_I, cJ_I, cR_I, cN_I, cI_L, cL_L, cA_L, cJ_L, cR_L, cN_L, cI_A, cL_A, cA_A, cJ_A, cR_A, cN_A, cI_J, cL_J, cA_J, cJ_J, cR_J, cN_J, cI_R, cL_R, cA_R, cJ_R, cR_R, cN_R, cI_N, cL_N, cA_N, cJ_N, cR_N, cN_N, ↓reduceIte, Nat.reduceEqDiff, upd_at, updL_at, ]; done) | (simp [mI_I, mL_I, mA_I, mJ_I, mI_L, mL_L, mA_L, mJ_L, mI_A, mL_A, mA_A, mJ_A, mI_J, mL_J, mA_J, mJ_J, cI_I, cL_I, cA_I, cJ_I, cR_I, cN_I, cI_L, cL_L, cA_L, cJ_L, cR_L, cN_L, cI_A, cL_A, cA_A, cJ_A, cR_A, cN_A, cI_J, cL_J, cA_J, cJ_J, cR_J, cN_J, cI_R, cL_R, cA_R, cJ_R, cR_R, cN_R, cI_N, cL_N, cA_N, cJ_N, cR_N, cN_N, ↓reduceIte, Nat.reduceEqDiff, upd_at, updL_at, ]; rfl))
theorem c_Mod_steps (l : Launch) (G : GG) (a : AD) (c : CC) (m : MM) (o : OO)  : CT l G y_Mod_steps (.code y_Mod_steps b_Mod_steps 1 (some .long)) 0 0 0 (Fyes G) (wld G a c m o) [.ref (a 30 0)] (fun r w2 => r = .inl (some (.long (mL m 0))) ∧ w2 = wld G a c (smI m 0 0) o) := by
  refine CT.of (by decide) (Nat.le_of_ble_eq_true rfl) rfl ?_
  intro E hl hG hF C r hw hex hnm
  subst hl; subst hG
  have Fw : Cw E := fun a h => by rw [hF]; exact h
  refine aw_aload_n (i := 0) C (dec D_Mod_steps rfl) rfl rfl ?_
  refine aw_iconst (v := 0) C (dec D_Mod_steps rfl) (by decide) ?_
  refine pf_Mod_71 C Fw (dec D_Mod_steps rfl) ?_
  refine aw_aload_n (i := 0) C (dec D_Mod_steps rfl) rfl rfl ?_
  refine gf_Mod_80 C (dec D_Mod_steps rfl) ?_
  refine aw_ret_l C r (dec D_Mod_steps rfl) (by decide) (by decide) ?_
  first | exact absurd trivial ‹¬True› | exact False.elim ‹False› | (refine ⟨?_, ?_⟩ <;> first | rfl | (simp [mI_I, mL_I, mA_I, mJ_I, mI_L, mL_L, mA_L, mJ_L, mI_A, mL_A, mA_A, mJ_A, mI_J, mL_J, mA_J, mJ_J, cI_I, cL_I, cA_I, cJ_I, cR_I, cN_I, cI_L, cL_L, cA_L, cJ_L, cR_L, cN_L, cI_A, cL_A, cA_A, cJ_A, cR_A, cN_A, cI_J, cL_J, cA_J, cJ_J, cR_J, cN_J, cI_R, cL_R, cA_R, cJ_R, cR_R, cN_R, cI_N, cL_N, cA_N, cJ_N, cR_N, cN_N, ↓reduceIte, Nat.reduceEqDiff, upd_at, updL_at, ]; done) | (simp [mI_I, mL_I, mA_I, mJ_I, mI_L, mL_L, mA_L, mJ_L, mI_A, mL_A, mA_A, mJ_A, mI_J, mL_J, mA_J, mJ_J, cI_I, cL_I, cA_I, cJ_I, cR_I, cN_I, cI_L, cL_L, cA_L, cJ_L, cR_L, cN_L, cI_A, cL_A, cA_A, cJ_A, cR_A, cN_A, cI_J, cL_J, cA_J, cJ_J, cR_J, cN_J, cI_R, cL_R, cA_R, cJ_R, cR_R, cN_R, cI_N, cL_N, cA_N, cJ_N, cR_N, cN_N, ↓reduceIte, Nat.reduceEqDiff, upd_at, updL_at, ]; rfl))
theorem c_Mod_state (l : Launch) (G : GG) (a : AD) (c : CC) (m : MM) (o : OO)  : CT l G y_Mod_state (.code y_Mod_state b_Mod_state 1 (some .int)) 0 0 0 (Fyes G) (wld G a c m o) [.ref (a 30 0)] (fun r w2 => r = .inl (some (.int (if mI m 4 = 0 then 0 else if mI m 5 = 0 then 1 else 2))) ∧ w2 = wld G a c (smI m 0 0) o) := by
  refine CT.of (by decide) (Nat.le_of_ble_eq_true rfl) rfl ?_
  intro E hl hG hF C r hw hex hnm
  subst hl; subst hG
  have Fw : Cw E := fun a h => by rw [hF]; exact h
  refine aw_aload_n (i := 0) C (dec D_Mod_state rfl) rfl rfl ?_
  refine aw_iconst (v := 0) C (dec D_Mod_state rfl) (by decide) ?_
  refine pf_Mod_71 C Fw (dec D_Mod_state rfl) ?_
  refine aw_aload_n (i := 0) C (dec D_Mod_state rfl) rfl rfl ?_
  refine gf_Mod_21 C (dec D_Mod_state rfl) ?_
  refine aw_if_ne (tgt := 16) C (dec D_Mod_state rfl) (by decide) (fun h9 => ?_) (fun h9 => ?_)
  · try simp only [mI_I, mL_I, mA_I, mJ_I, mI_L, mL_L, mA_L, mJ_L, mI_A, mL_A, mA_A, mJ_A, mI_J, mL_J, mA_J, mJ_J, cI_I, cL_I, cA_I, cJ_I, cR_I, cN_I, cI_L, cL_L, cA_L, cJ_L, cR_L, cN_L, cI_A, cL_A, cA_A, cJ_A, cR_A, cN_A, cI_J, cL_J, cA_J, cJ_J, cR_J, cN_J, cI_R, cL_R, cA_R, cJ_R, cR_R, cN_R, cI_N, cL_N, cA_N, cJ_N, cR_N, cN_N, ↓reduceIte, Nat.reduceEqDiff, upd_at, updL_at] at h9
    refine aw_aload_n (i := 0) C (dec D_Mod_state rfl) rfl rfl ?_
    refine gf_Mod_77 C (dec D_Mod_state rfl) ?_
    refine aw_if_eq (tgt := 27) C (dec D_Mod_state rfl) (by decide) (fun h20 => ?_) (fun h20 => ?_)
    · try simp only [mI_I, mL_I, mA_I, mJ_I, mI_L, mL_L, mA_L, mJ_L, mI_A, mL_A, mA_A, mJ_A, mI_J, mL_J, mA_J, mJ_J, cI_I, cL_I, cA_I, cJ_I, cR_I, cN_I, cI_L, cL_L, cA_L, cJ_L, cR_L, cN_L, cI_A, cL_A, cA_A, cJ_A, cR_A, cN_A, cI_J, cL_J, cA_J, cJ_J, cR_J, cN_J, cI_R, cL_R, cA_R, cJ_R, cR_R, cN_R, cI_N, cL_N, cA_N, cJ_N, cR_N, cN_N, ↓reduceIte, Nat.reduceEqDiff, upd_at, updL_at] at h20
      refine aw_iconst (v := 1) C (dec D_Mod_state rfl) (by decide) ?_
      refine aw_ret_i C r (dec D_Mod_state rfl) rfl (by decide) (by decide) ?_
      first | exact absurd trivial ‹¬True› | exact False.elim ‹False› | (refine ⟨?_, ?_⟩ <;> first | rfl | (simp [mI_I, mL_I, mA_I, mJ_I, mI_L, mL_L, mA_L, mJ_L, mI_A, mL_A, mA_A, mJ_A, mI_J, mL_J, mA_J, mJ_J, cI_I, cL_I, cA_I, cJ_I, cR_I, cN_I, cI_L, cL_L, cA_L, cJ_L, cR_L, cN_L, cI_A, cL_A, cA_A, cJ_A, cR_A, cN_A, cI_J, cL_J, cA_J, cJ_J, cR_J, cN_J, cI_R, cL_R, cA_R, cJ_R, cR_R, cN_R, cI_N, cL_N, cA_N, cJ_N, cR_N, cN_N, ↓reduceIte, Nat.reduceEqDiff, upd_at, updL_at, h9, h20]; done) | (simp [mI_I, mL_I, mA_I, mJ_I, mI_L, mL_L, mA_L, mJ_L, mI_A, mL_A, mA_A, mJ_A, mI_J, mL_J, mA_J, mJ_J, cI_I, cL_I, cA_I, cJ_I, cR_I, cN_I, cI_L, cL_L, cA_L, cJ_L, cR_L, cN_L, cI_A, cL_A, cA_A, cJ_A, cR_A, cN_A, cI_J, cL_J, cA_J, cJ_J, cR_J, cN_J, cI_R, cL_R, cA_R, cJ_R, cR_R, cN_R, cI_N, cL_N, cA_N, cJ_N, cR_N, cN_N, ↓reduceIte, Nat.reduceEqDiff, upd_at, updL_at, h9, h20]; rfl))
    · try simp only [mI_I, mL_I, mA_I, mJ_I, mI_L, mL_L, mA_L, mJ_L, mI_A, mL_A, mA_A, mJ_A, mI_J, mL_J, mA_J, mJ_J, cI_I, cL_I, cA_I, cJ_I, cR_I, cN_I, cI_L, cL_L, cA_L, cJ_L, cR_L, cN_L, cI_A, cL_A, cA_A, cJ_A, cR_A, cN_A, cI_J, cL_J, cA_J, cJ_J, cR_J, cN_J, cI_R, cL_R, cA_R, cJ_R, cR_R, cN_R, cI_N, cL_N, cA_N, cJ_N, cR_N, cN_N, ↓reduceIte, Nat.reduceEqDiff, upd_at, updL_at] at h20
      refine aw_iconst (v := 2) C (dec D_Mod_state rfl) (by decide) ?_
      refine aw_goto (tgt := 28) C (dec D_Mod_state rfl) (by decide) ?_
      refine aw_ret_i C r (dec D_Mod_state rfl) rfl (by decide) (by decide) ?_
      first | exact absurd trivial ‹¬True› | exact False.elim ‹False› | (refine ⟨?_, ?_⟩ <;> first | rfl | (simp [mI_I, mL_I, mA_I, mJ_I, mI_L, mL_L, mA_L, mJ_L, mI_A, mL_A, mA_A, mJ_A, mI_J, mL_J, mA_J, mJ_J, cI_I, cL_I, cA_I, cJ_I, cR_I, cN_I, cI_L, cL_L, cA_L, cJ_L, cR_L, cN_L, cI_A, cL_A, cA_A, cJ_A, cR_A, cN_A, cI_J, cL_J, cA_J, cJ_J, cR_J, cN_J, cI_R, cL_R, cA_R, cJ_R, cR_R, cN_R, cI_N, cL_N, cA_N, cJ_N, cR_N, cN_N, ↓reduceIte, Nat.reduceEqDiff, upd_at, updL_at, h9, h20]; done) | (simp [mI_I, mL_I, mA_I, mJ_I, mI_L, mL_L, mA_L, mJ_L, mI_A, mL_A, mA_A, mJ_A, mI_J, mL_J, mA_J, mJ_J, cI_I, cL_I, cA_I, cJ_I, cR_I, cN_I, cI_L, cL_L, cA_L, cJ_L, cR_L, cN_L, cI_A, cL_A, cA_A, cJ_A, cR_A, cN_A, cI_J, cL_J, cA_J, cJ_J, cR_J, cN_J, cI_R, cL_R, cA_R, cJ_R, cR_R, cN_R, cI_N, cL_N, cA_N, cJ_N, cR_N, cN_N, ↓reduceIte, Nat.reduceEqDiff, upd_at, updL_at, h9, h20]; rfl))
  · try simp only [mI_I, mL_I, mA_I, mJ_I, mI_L, mL_L, mA_L, mJ_L, mI_A, mL_A, mA_A, mJ_A, mI_J, mL_J, mA_J, mJ_J, cI_I, cL_I, cA_I, cJ_I, cR_I, cN_I, cI_L, cL_L, cA_L, cJ_L, cR_L, cN_L, cI_A, cL_A, cA_A, cJ_A, cR_A, cN_A, cI_J, cL_J, cA_J, cJ_J, cR_J, cN_J, cI_R, cL_R, cA_R, cJ_R, cR_R, cN_R, cI_N, cL_N, cA_N, cJ_N, cR_N, cN_N, ↓reduceIte, Nat.reduceEqDiff, upd_at, updL_at] at h9
    refine aw_iconst (v := 0) C (dec D_Mod_state rfl) (by decide) ?_
    refine aw_goto (tgt := 28) C (dec D_Mod_state rfl) (by decide) ?_
    refine aw_ret_i C r (dec D_Mod_state rfl) rfl (by decide) (by decide) ?_
    first | exact absurd trivial ‹¬True› | exact False.elim ‹False› | (refine ⟨?_, ?_⟩ <;> first | rfl | (simp [mI_I, mL_I, mA_I, mJ_I, mI_L, mL_L, mA_L, mJ_L, mI_A, mL_A, mA_A, mJ_A, mI_J, mL_J, mA_J, mJ_J, cI_I, cL_I, cA_I, cJ_I, cR_I, cN_I, cI_L, cL_L, cA_L, cJ_L, cR_L, cN_L, cI_A, cL_A, cA_A, cJ_A, cR_A, cN_A, cI_J, cL_J, cA_J, cJ_J, cR_J, cN_J, cI_R, cL_R, cA_R, cJ_R, cR_R, cN_R, cI_N, cL_N, cA_N, cJ_N, cR_N, cN_N, ↓reduceIte, Nat.reduceEqDiff, upd_at, updL_at, h9]; done) | (simp [mI_I, mL_I, mA_I, mJ_I, mI_L, mL_L, mA_L, mJ_L, mI_A, mL_A, mA_A, mJ_A, mI_J, mL_J, mA_J, mJ_J, cI_I, cL_I, cA_I, cJ_I, cR_I, cN_I, cI_L, cL_L, cA_L, cJ_L, cR_L, cN_L, cI_A, cL_A, cA_A, cJ_A, cR_A, cN_A, cI_J, cL_J, cA_J, cJ_J, cR_J, cN_J, cI_R, cL_R, cA_R, cJ_R, cR_R, cN_R, cI_N, cL_N, cA_N, cJ_N, cR_N, cN_N, ↓reduceIte, Nat.reduceEqDiff, upd_at, updL_at, h9]; rfl))
theorem c_Mod_isReady (l : Launch) (G : GG) (a : AD) (c : CC) (m : MM) (o : OO)  : CT l G y_Mod_isReady (.code y_Mod_isReady b_Mod_isReady 1 (some .boolean)) 0 0 0 Fno (wld G a c m o) [.ref (a 30 0)] (fun r w2 => r = .inl (some (.int (mReady m))) ∧ w2 = wld G a c m o) := by
  refine CT.of (by decide) (Nat.le_of_ble_eq_true rfl) rfl ?_
  intro E hl hG hF C r hw hex hnm
  subst hl; subst hG
  refine aw_aload_n (i := 0) C (dec D_Mod_isReady rfl) rfl rfl ?_
  refine gf_Mod_21 C (dec D_Mod_isReady rfl) ?_
  refine aw_if_eq (tgt := 18) C (dec D_Mod_isReady rfl) (by decide) (fun h4 => ?_) (fun h4 => ?_)
  · try simp only [mI_I, mL_I, mA_I, mJ_I, mI_L, mL_L, mA_L, mJ_L, mI_A, mL_A, mA_A, mJ_A, mI_J, mL_J, mA_J, mJ_J, cI_I, cL_I, cA_I, cJ_I, cR_I, cN_I, cI_L, cL_L, cA_L, cJ_L, cR_L, cN_L, cI_A, cL_A, cA_A, cJ_A, cR_A, cN_A, cI_J, cL_J, cA_J, cJ_J, cR_J, cN_J, cI_R, cL_R, cA_R, cJ_R, cR_R, cN_R, cI_N, cL_N, cA_N, cJ_N, cR_N, cN_N, ↓reduceIte, Nat.reduceEqDiff, upd_at, updL_at] at h4
    refine aw_iconst (v := 0) C (dec D_Mod_isReady rfl) (by decide) ?_
    refine aw_ret_i C r (dec D_Mod_isReady rfl) rfl (by decide) (by decide) ?_
    first | exact absurd trivial ‹¬True› | exact False.elim ‹False› | (refine ⟨?_, ?_⟩ <;> first | rfl | (simp [mI_I, mL_I, mA_I, mJ_I, mI_L, mL_L, mA_L, mJ_L, mI_A, mL_A, mA_A, mJ_A, mI_J, mL_J, mA_J, mJ_J, cI_I, cL_I, cA_I, cJ_I, cR_I, cN_I, cI_L, cL_L, cA_L, cJ_L, cR_L, cN_L, cI_A, cL_A, cA_A, cJ_A, cR_A, cN_A, cI_J, cL_J, cA_J, cJ_J, cR_J, cN_J, cI_R, cL_R, cA_R, cJ_R, cR_R, cN_R, cI_N, cL_N, cA_N, cJ_N, cR_N, cN_N, ↓reduceIte, Nat.reduceEqDiff, upd_at, updL_at, h4, mReady]; done) | (simp [mI_I, mL_I, mA_I, mJ_I, mI_L, mL_L, mA_L, mJ_L, mI_A, mL_A, mA_A, mJ_A, mI_J, mL_J, mA_J, mJ_J, cI_I, cL_I, cA_I, cJ_I, cR_I, cN_I, cI_L, cL_L, cA_L, cJ_L, cR_L, cN_L, cI_A, cL_A, cA_A, cJ_A, cR_A, cN_A, cI_J, cL_J, cA_J, cJ_J, cR_J, cN_J, cI_R, cL_R, cA_R, cJ_R, cR_R, cN_R, cI_N, cL_N, cA_N, cJ_N, cR_N, cN_N, ↓reduceIte, Nat.reduceEqDiff, upd_at, updL_at, h4, mReady]; rfl))
  · try simp only [mI_I, mL_I, mA_I, mJ_I, mI_L, mL_L, mA_L, mJ_L, mI_A, mL_A, mA_A, mJ_A, mI_J, mL_J, mA_J, mJ_J, cI_I, cL_I, cA_I, cJ_I, cR_I, cN_I, cI_L, cL_L, cA_L, cJ_L, cR_L, cN_L, cI_A, cL_A, cA_A, cJ_A, cR_A, cN_A, cI_J, cL_J, cA_J, cJ_J, cR_J, cN_J, cI_R, cL_R, cA_R, cJ_R, cR_R, cN_R, cI_N, cL_N, cA_N, cJ_N, cR_N, cN_N, ↓reduceIte, Nat.reduceEqDiff, upd_at, updL_at] at h4
    refine aw_aload_n (i := 0) C (dec D_Mod_isReady rfl) rfl rfl ?_
    refine gf_Mod_77 C (dec D_Mod_isReady rfl) ?_
    refine aw_if_eq (tgt := 18) C (dec D_Mod_isReady rfl) (by decide) (fun h11 => ?_) (fun h11 => ?_)
    · try simp only [mI_I, mL_I, mA_I, mJ_I, mI_L, mL_L, mA_L, mJ_L, mI_A, mL_A, mA_A, mJ_A, mI_J, mL_J, mA_J, mJ_J, cI_I, cL_I, cA_I, cJ_I, cR_I, cN_I, cI_L, cL_L, cA_L, cJ_L, cR_L, cN_L, cI_A, cL_A, cA_A, cJ_A, cR_A, cN_A, cI_J, cL_J, cA_J, cJ_J, cR_J, cN_J, cI_R, cL_R, cA_R, cJ_R, cR_R, cN_R, cI_N, cL_N, cA_N, cJ_N, cR_N, cN_N, ↓reduceIte, Nat.reduceEqDiff, upd_at, updL_at] at h11
      refine aw_iconst (v := 0) C (dec D_Mod_isReady rfl) (by decide) ?_
      refine aw_ret_i C r (dec D_Mod_isReady rfl) rfl (by decide) (by decide) ?_
      first | exact absurd trivial ‹¬True› | exact False.elim ‹False› | (refine ⟨?_, ?_⟩ <;> first | rfl | (simp [mI_I, mL_I, mA_I, mJ_I, mI_L, mL_L, mA_L, mJ_L, mI_A, mL_A, mA_A, mJ_A, mI_J, mL_J, mA_J, mJ_J, cI_I, cL_I, cA_I, cJ_I, cR_I, cN_I, cI_L, cL_L, cA_L, cJ_L, cR_L, cN_L, cI_A, cL_A, cA_A, cJ_A, cR_A, cN_A, cI_J, cL_J, cA_J, cJ_J, cR_J, cN_J, cI_R, cL_R, cA_R, cJ_R, cR_R, cN_R, cI_N, cL_N, cA_N, cJ_N, cR_N, cN_N, ↓reduceIte, Nat.reduceEqDiff, upd_at, updL_at, h4, h11, mReady]; done) | (simp [mI_I, mL_I, mA_I, mJ_I, mI_L, mL_L, mA_L, mJ_L, mI_A, mL_A, mA_A, mJ_A, mI_J, mL_J, mA_J, mJ_J, cI_I, cL_I, cA_I, cJ_I, cR_I, cN_I, cI_L, cL_L, cA_L, cJ_L, cR_L, cN_L, cI_A, cL_A, cA_A, cJ_A, cR_A, cN_A, cI_J, cL_J, cA_J, cJ_J, cR_J, cN_J, cI_R, cL_R, cA_R, cJ_R, cR_R, cN_R, cI_N, cL_N, cA_N, cJ_N, cR_N, cN_N, ↓reduceIte, Nat.reduceEqDiff, upd_at, updL_at, h4, h11, mReady]; rfl))
    · try simp only [mI_I, mL_I, mA_I, mJ_I, mI_L, mL_L, mA_L, mJ_L, mI_A, mL_A, mA_A, mJ_A, mI_J, mL_J, mA_J, mJ_J, cI_I, cL_I, cA_I, cJ_I, cR_I, cN_I, cI_L, cL_L, cA_L, cJ_L, cR_L, cN_L, cI_A, cL_A, cA_A, cJ_A, cR_A, cN_A, cI_J, cL_J, cA_J, cJ_J, cR_J, cN_J, cI_R, cL_R, cA_R, cJ_R, cR_R, cN_R, cI_N, cL_N, cA_N, cJ_N, cR_N, cN_N, ↓reduceIte, Nat.reduceEqDiff, upd_at, updL_at] at h11
      refine aw_iconst (v := 1) C (dec D_Mod_isReady rfl) (by decide) ?_
      refine aw_goto (tgt := 19) C (dec D_Mod_isReady rfl) (by decide) ?_
      refine aw_ret_i C r (dec D_Mod_isReady rfl) rfl (by decide) (by decide) ?_
      first | exact absurd trivial ‹¬True› | exact False.elim ‹False› | (refine ⟨?_, ?_⟩ <;> first | rfl | (simp [mI_I, mL_I, mA_I, mJ_I, mI_L, mL_L, mA_L, mJ_L, mI_A, mL_A, mA_A, mJ_A, mI_J, mL_J, mA_J, mJ_J, cI_I, cL_I, cA_I, cJ_I, cR_I, cN_I, cI_L, cL_L, cA_L, cJ_L, cR_L, cN_L, cI_A, cL_A, cA_A, cJ_A, cR_A, cN_A, cI_J, cL_J, cA_J, cJ_J, cR_J, cN_J, cI_R, cL_R, cA_R, cJ_R, cR_R, cN_R, cI_N, cL_N, cA_N, cJ_N, cR_N, cN_N, ↓reduceIte, Nat.reduceEqDiff, upd_at, updL_at, h4, h11, mReady]; done) | (simp [mI_I, mL_I, mA_I, mJ_I, mI_L, mL_L, mA_L, mJ_L, mI_A, mL_A, mA_A, mJ_A, mI_J, mL_J, mA_J, mJ_J, cI_I, cL_I, cA_I, cJ_I, cR_I, cN_I, cI_L, cL_L, cA_L, cJ_L, cR_L, cN_L, cI_A, cL_A, cA_A, cJ_A, cR_A, cN_A, cI_J, cL_J, cA_J, cJ_J, cR_J, cN_J, cI_R, cL_R, cA_R, cJ_R, cR_R, cN_R, cI_N, cL_N, cA_N, cJ_N, cR_N, cN_N, ↓reduceIte, Nat.reduceEqDiff, upd_at, updL_at, h4, h11, mReady]; rfl))
theorem c_Mod_stepsTo (l : Launch) (G : GG) (a : AD) (c : CC) (m : MM) (o : OO) (x : Int32) : CT l G y_Mod_stepsTo (.code y_Mod_stepsTo b_Mod_stepsTo 2 (some .int)) 0 0 0 Fno (wld G a c m o) [.ref (a 30 0), .int x] (fun r w2 => r = .inl (some (.int (mStepsTo m x))) ∧ w2 = wld G a c m o) := by
  refine CT.of (by decide) (Nat.le_of_ble_eq_true rfl) rfl ?_
  intro E hl hG hF C r hw hex hnm
  subst hl; subst hG
  refine aw_iload_n (i := 1) C (dec D_Mod_stepsTo rfl) rfl rfl ?_
  refine aw_bipush (v := 101) C (dec D_Mod_stepsTo rfl) (by decide) ?_
  refine aw_iadd C (dec D_Mod_stepsTo rfl) ?_
  refine aw_aload_n (i := 0) C (dec D_Mod_stepsTo rfl) rfl rfl ?_
  refine gf_Mod_84 C (dec D_Mod_stepsTo rfl) ?_
  refine aw_isub C (dec D_Mod_stepsTo rfl) ?_
  refine aw_bipush (v := 101) C (dec D_Mod_stepsTo rfl) (by decide) ?_
  refine aw_irem C (dec D_Mod_stepsTo rfl) (by decide) ?_
  refine aw_ret_i C r (dec D_Mod_stepsTo rfl) rfl (by decide) (by decide) ?_
  first | exact absurd trivial ‹¬True› | exact False.elim ‹False› | (refine ⟨?_, ?_⟩ <;> first | rfl | (simp [mI_I, mL_I, mA_I, mJ_I, mI_L, mL_L, mA_L, mJ_L, mI_A, mL_A, mA_A, mJ_A, mI_J, mL_J, mA_J, mJ_J, cI_I, cL_I, cA_I, cJ_I, cR_I, cN_I, cI_L, cL_L, cA_L, cJ_L, cR_L, cN_L, cI_A, cL_A, cA_A, cJ_A, cR_A, cN_A, cI_J, cL_J, cA_J, cJ_J, cR_J, cN_J, cI_R, cL_R, cA_R, cJ_R, cR_R, cN_R, cI_N, cL_N, cA_N, cJ_N, cR_N, cN_N, ↓reduceIte, Nat.reduceEqDiff, upd_at, updL_at, ]; done) | (simp [mI_I, mL_I, mA_I, mJ_I, mI_L, mL_L, mA_L, mJ_L, mI_A, mL_A, mA_A, mJ_A, mI_J, mL_J, mA_J, mJ_J, cI_I, cL_I, cA_I, cJ_I, cR_I, cN_I, cI_L, cL_L, cA_L, cJ_L, cR_L, cN_L, cI_A, cL_A, cA_A, cJ_A, cR_A, cN_A, cI_J, cL_J, cA_J, cJ_J, cR_J, cN_J, cI_R, cL_R, cA_R, cJ_R, cR_R, cN_R, cI_N, cL_N, cA_N, cJ_N, cR_N, cN_N, ↓reduceIte, Nat.reduceEqDiff, upd_at, updL_at, ]; rfl))
theorem c_Mod_power (l : Launch) (G : GG) (a : AD) (c : CC) (m : MM) (o : OO) (x : Int32) : CT l G y_Mod_power (.code y_Mod_power b_Mod_power 2 none) 0 0 0 (Fyes G) (wld G a c m o) [.ref (a 30 0), .int x] (fun r w2 => r = .inl none ∧ w2 = wld G a c (mPower m x) o) := by
  refine CT.of (by decide) (Nat.le_of_ble_eq_true rfl) rfl ?_
  intro E hl hG hF C r hw hex hnm
  subst hl; subst hG
  have Fw : Cw E := fun a h => by rw [hF]; exact h
  refine aw_aload_n (i := 0) C (dec D_Mod_power rfl) rfl rfl ?_
  refine aw_iconst (v := 0) C (dec D_Mod_power rfl) (by decide) ?_
  refine pf_Mod_71 C Fw (dec D_Mod_power rfl) ?_
  refine aw_aload_n (i := 0) C (dec D_Mod_power rfl) rfl rfl ?_
  refine aw_aload_n (i := 0) C (dec D_Mod_power rfl) rfl rfl ?_
  refine gf_Mod_21 C (dec D_Mod_power rfl) ?_
  refine aw_if_eq (tgt := 25) C (dec D_Mod_power rfl) (by decide) (fun h10 => ?_) (fun h10 => ?_)
  · try simp only [mI_I, mL_I, mA_I, mJ_I, mI_L, mL_L, mA_L, mJ_L, mI_A, mL_A, mA_A, mJ_A, mI_J, mL_J, mA_J, mJ_J, cI_I, cL_I, cA_I, cJ_I, cR_I, cN_I, cI_L, cL_L, cA_L, cJ_L, cR_L, cN_L, cI_A, cL_A, cA_A, cJ_A, cR_A, cN_A, cI_J, cL_J, cA_J, cJ_J, cR_J, cN_J, cI_R, cL_R, cA_R, cJ_R, cR_R, cN_R, cI_N, cL_N, cA_N, cJ_N, cR_N, cN_N, ↓reduceIte, Nat.reduceEqDiff, upd_at, updL_at] at h10
    refine aw_aload_n (i := 0) C (dec D_Mod_power rfl) rfl rfl ?_
    refine gf_Mod_17 C (dec D_Mod_power rfl) ?_
    refine pf_Mod_17 C Fw (dec D_Mod_power rfl) ?_
    refine aw_ret_v C r (dec D_Mod_power rfl) (by decide) (by decide) ?_
    first | exact absurd trivial ‹¬True› | exact False.elim ‹False› | (refine ⟨?_, ?_⟩ <;> first | rfl | (simp [mI_I, mL_I, mA_I, mJ_I, mI_L, mL_L, mA_L, mJ_L, mI_A, mL_A, mA_A, mJ_A, mI_J, mL_J, mA_J, mJ_J, cI_I, cL_I, cA_I, cJ_I, cR_I, cN_I, cI_L, cL_L, cA_L, cJ_L, cR_L, cN_L, cI_A, cL_A, cA_A, cJ_A, cR_A, cN_A, cI_J, cL_J, cA_J, cJ_J, cR_J, cN_J, cI_R, cL_R, cA_R, cJ_R, cR_R, cN_R, cI_N, cL_N, cA_N, cJ_N, cR_N, cN_N, ↓reduceIte, Nat.reduceEqDiff, upd_at, updL_at, h10, mPower]; done) | (simp [mI_I, mL_I, mA_I, mJ_I, mI_L, mL_L, mA_L, mJ_L, mI_A, mL_A, mA_A, mJ_A, mI_J, mL_J, mA_J, mJ_J, cI_I, cL_I, cA_I, cJ_I, cR_I, cN_I, cI_L, cL_L, cA_L, cJ_L, cR_L, cN_L, cI_A, cL_A, cA_A, cJ_A, cR_A, cN_A, cI_J, cL_J, cA_J, cJ_J, cR_J, cN_J, cI_R, cL_R, cA_R, cJ_R, cR_R, cN_R, cI_N, cL_N, cA_N, cJ_N, cR_N, cN_N, ↓reduceIte, Nat.reduceEqDiff, upd_at, updL_at, h10, mPower]; rfl))
  · try simp only [mI_I, mL_I, mA_I, mJ_I, mI_L, mL_L, mA_L, mJ_L, mI_A, mL_A, mA_A, mJ_A, mI_J, mL_J, mA_J, mJ_J, cI_I, cL_I, cA_I, cJ_I, cR_I, cN_I, cI_L, cL_L, cA_L, cJ_L, cR_L, cN_L, cI_A, cL_A, cA_A, cJ_A, cR_A, cN_A, cI_J, cL_J, cA_J, cJ_J, cR_J, cN_J, cI_R, cL_R, cA_R, cJ_R, cR_R, cN_R, cI_N, cL_N, cA_N, cJ_N, cR_N, cN_N, ↓reduceIte, Nat.reduceEqDiff, upd_at, updL_at] at h10
    refine aw_iload_n (i := 1) C (dec D_Mod_power rfl) rfl rfl ?_
    refine aw_if_ge (tgt := 21) C (dec D_Mod_power rfl) (by decide) (fun h14 => ?_) (fun h14 => ?_)
    · try simp only [mI_I, mL_I, mA_I, mJ_I, mI_L, mL_L, mA_L, mJ_L, mI_A, mL_A, mA_A, mJ_A, mI_J, mL_J, mA_J, mJ_J, cI_I, cL_I, cA_I, cJ_I, cR_I, cN_I, cI_L, cL_L, cA_L, cJ_L, cR_L, cN_L, cI_A, cL_A, cA_A, cJ_A, cR_A, cN_A, cI_J, cL_J, cA_J, cJ_J, cR_J, cN_J, cI_R, cL_R, cA_R, cJ_R, cR_R, cN_R, cI_N, cL_N, cA_N, cJ_N, cR_N, cN_N, ↓reduceIte, Nat.reduceEqDiff, upd_at, updL_at] at h14
      refine aw_iload_n (i := 1) C (dec D_Mod_power rfl) rfl rfl ?_
      refine aw_goto (tgt := 29) C (dec D_Mod_power rfl) (by decide) ?_
      refine pf_Mod_17 C Fw (dec D_Mod_power rfl) ?_
      refine aw_ret_v C r (dec D_Mod_power rfl) (by decide) (by decide) ?_
      first | exact absurd trivial ‹¬True› | exact False.elim ‹False› | (refine ⟨?_, ?_⟩ <;> first | rfl | (simp [mI_I, mL_I, mA_I, mJ_I, mI_L, mL_L, mA_L, mJ_L, mI_A, mL_A, mA_A, mJ_A, mI_J, mL_J, mA_J, mJ_J, cI_I, cL_I, cA_I, cJ_I, cR_I, cN_I, cI_L, cL_L, cA_L, cJ_L, cR_L, cN_L, cI_A, cL_A, cA_A, cJ_A, cR_A, cN_A, cI_J, cL_J, cA_J, cJ_J, cR_J, cN_J, cI_R, cL_R, cA_R, cJ_R, cR_R, cN_R, cI_N, cL_N, cA_N, cJ_N, cR_N, cN_N, ↓reduceIte, Nat.reduceEqDiff, upd_at, updL_at, h10, h14, mPower]; done) | (simp [mI_I, mL_I, mA_I, mJ_I, mI_L, mL_L, mA_L, mJ_L, mI_A, mL_A, mA_A, mJ_A, mI_J, mL_J, mA_J, mJ_J, cI_I, cL_I, cA_I, cJ_I, cR_I, cN_I, cI_L, cL_L, cA_L, cJ_L, cR_L, cN_L, cI_A, cL_A, cA_A, cJ_A, cR_A, cN_A, cI_J, cL_J, cA_J, cJ_J, cR_J, cN_J, cI_R, cL_R, cA_R, cJ_R, cR_R, cN_R, cI_N, cL_N, cA_N, cJ_N, cR_N, cN_N, ↓reduceIte, Nat.reduceEqDiff, upd_at, updL_at, h10, h14, mPower]; rfl))
    · try simp only [mI_I, mL_I, mA_I, mJ_I, mI_L, mL_L, mA_L, mJ_L, mI_A, mL_A, mA_A, mJ_A, mI_J, mL_J, mA_J, mJ_J, cI_I, cL_I, cA_I, cJ_I, cR_I, cN_I, cI_L, cL_L, cA_L, cJ_L, cR_L, cN_L, cI_A, cL_A, cA_A, cJ_A, cR_A, cN_A, cI_J, cL_J, cA_J, cJ_J, cR_J, cN_J, cI_R, cL_R, cA_R, cJ_R, cR_R, cN_R, cI_N, cL_N, cA_N, cJ_N, cR_N, cN_N, ↓reduceIte, Nat.reduceEqDiff, upd_at, updL_at] at h14
      refine aw_iconst (v := (-1)) C (dec D_Mod_power rfl) (by decide) ?_
      refine aw_goto (tgt := 29) C (dec D_Mod_power rfl) (by decide) ?_
      refine pf_Mod_17 C Fw (dec D_Mod_power rfl) ?_
      refine aw_ret_v C r (dec D_Mod_power rfl) (by decide) (by decide) ?_
      first | exact absurd trivial ‹¬True› | exact False.elim ‹False› | (refine ⟨?_, ?_⟩ <;> first | rfl | (simp [mI_I, mL_I, mA_I, mJ_I, mI_L, mL_L, mA_L, mJ_L, mI_A, mL_A, mA_A, mJ_A, mI_J, mL_J, mA_J, mJ_J, cI_I, cL_I, cA_I, cJ_I, cR_I, cN_I, cI_L, cL_L, cA_L, cJ_L, cR_L, cN_L, cI_A, cL_A, cA_A, cJ_A, cR_A, cN_A, cI_J, cL_J, cA_J, cJ_J, cR_J, cN_J, cI_R, cL_R, cA_R, cJ_R, cR_R, cN_R, cI_N, cL_N, cA_N, cJ_N, cR_N, cN_N, ↓reduceIte, Nat.reduceEqDiff, upd_at, updL_at, h10, h14, mPower]; done) | (simp [mI_I, mL_I, mA_I, mJ_I, mI_L, mL_L, mA_L, mJ_L, mI_A, mL_A, mA_A, mJ_A, mI_J, mL_J, mA_J, mJ_J, cI_I, cL_I, cA_I, cJ_I, cR_I, cN_I, cI_L, cL_L, cA_L, cJ_L, cR_L, cN_L, cI_A, cL_A, cA_A, cJ_A, cR_A, cN_A, cI_J, cL_J, cA_J, cJ_J, cR_J, cN_J, cI_R, cL_R, cA_R, cJ_R, cR_R, cN_R, cI_N, cL_N, cA_N, cJ_N, cR_N, cN_N, ↓reduceIte, Nat.reduceEqDiff, upd_at, updL_at, h10, h14, mPower]; rfl))
theorem c_Mod_turnTo (l : Launch) (G : GG) (a : AD) (c : CC) (m : MM) (o : OO) (x : Int32) : CT l G y_Mod_turnTo (.code y_Mod_turnTo b_Mod_turnTo 2 none) 1 0 0 (Fyes G) (wld G a c m o) [.ref (a 30 0), .int x] (fun r w2 => r = .inl none ∧ w2 = wld G a c (mTurn m x) o) := by
  refine CT.of (by decide) (Nat.le_of_ble_eq_true rfl) rfl ?_
  intro E hl hG hF C r hw hex hnm
  subst hl; subst hG
  have Fw : Cw E := fun a h => by rw [hF]; exact h
  refine aw_aload_n (i := 0) C (dec D_Mod_turnTo rfl) rfl rfl ?_
  refine aw_aload_n (i := 0) C (dec D_Mod_turnTo rfl) rfl rfl ?_
  refine gf_Mod_80 C (dec D_Mod_turnTo rfl) ?_
  refine aw_aload_n (i := 0) C (dec D_Mod_turnTo rfl) rfl rfl ?_
  refine aw_iload_n (i := 1) C (dec D_Mod_turnTo rfl) rfl rfl ?_
  refine aw_cv C ci_Mod_87 [_] (c_Mod_stepsTo _ _ _ _ _ _ _) (dec D_Mod_turnTo rfl) rcM rfl fpP (Nat.le_of_ble_eq_true rfl) (by decide) ⟨by decide, by decide⟩ (fun v w2 hp => ?_) (fun _ _ h => by cases h.1)
  obtain ⟨hv, rfl⟩ := hp
  cases hv
  refine aw_i2l C (dec D_Mod_turnTo rfl) ?_
  refine aw_ladd C (dec D_Mod_turnTo rfl) ?_
  refine pf_Mod_80 C Fw (dec D_Mod_turnTo rfl) ?_
  refine aw_aload_n (i := 0) C (dec D_Mod_turnTo rfl) rfl rfl ?_
  refine aw_iload_n (i := 1) C (dec D_Mod_turnTo rfl) rfl rfl ?_
  refine pf_Mod_84 C Fw (dec D_Mod_turnTo rfl) ?_
  refine aw_ret_v C r (dec D_Mod_turnTo rfl) (by decide) (by decide) ?_
  first | exact absurd trivial ‹¬True› | exact False.elim ‹False› | (refine ⟨?_, ?_⟩ <;> first | rfl | (simp [mI_I, mL_I, mA_I, mJ_I, mI_L, mL_L, mA_L, mJ_L, mI_A, mL_A, mA_A, mJ_A, mI_J, mL_J, mA_J, mJ_J, cI_I, cL_I, cA_I, cJ_I, cR_I, cN_I, cI_L, cL_L, cA_L, cJ_L, cR_L, cN_L, cI_A, cL_A, cA_A, cJ_A, cR_A, cN_A, cI_J, cL_J, cA_J, cJ_J, cR_J, cN_J, cI_R, cL_R, cA_R, cJ_R, cR_R, cN_R, cI_N, cL_N, cA_N, cJ_N, cR_N, cN_N, ↓reduceIte, Nat.reduceEqDiff, upd_at, updL_at, ]; done) | (simp [mI_I, mL_I, mA_I, mJ_I, mI_L, mL_L, mA_L, mJ_L, mI_A, mL_A, mA_A, mJ_A, mI_J, mL_J, mA_J, mJ_J, cI_I, cL_I, cA_I, cJ_I, cR_I, cN_I, cI_L, cL_L, cA_L, cJ_L, cR_L, cN_L, cI_A, cL_A, cA_A, cJ_A, cR_A, cN_A, cI_J, cL_J, cA_J, cJ_J, cR_J, cN_J, cI_R, cL_R, cA_R, cJ_R, cR_R, cN_R, cI_N, cL_N, cA_N, cJ_N, cR_N, cN_N, ↓reduceIte, Nat.reduceEqDiff, upd_at, updL_at, ]; rfl))
theorem c_Mod_goes (l : Launch) (G : GG) (a : AD) (c : CC) (m : MM) (o : OO) (x : Int32) : CT l G y_Mod_goes (.code y_Mod_goes b_Mod_goes 2 (some .boolean)) 2 0 0 (Fyes G) (wld G a c m o) [.ref (a 30 0), .int x] (fun r w2 => r = .inl (some (.int (mGoesR m))) ∧ w2 = wld G a c (mGoes m x) o) := by
  refine CT.of (by decide) (Nat.le_of_ble_eq_true rfl) rfl ?_
  intro E hl hG hF C r hw hex hnm
  subst hl; subst hG
  have Fw : Cw E := fun a h => by rw [hF]; exact h
  refine aw_aload_n (i := 0) C (dec D_Mod_goes rfl) rfl rfl ?_
  refine gf_Mod_17 C (dec D_Mod_goes rfl) ?_
  refine aw_if_ne (tgt := 12) C (dec D_Mod_goes rfl) (by decide) (fun h4 => ?_) (fun h4 => ?_)
  · try simp only [mI_I, mL_I, mA_I, mJ_I, mI_L, mL_L, mA_L, mJ_L, mI_A, mL_A, mA_A, mJ_A, mI_J, mL_J, mA_J, mJ_J, cI_I, cL_I, cA_I, cJ_I, cR_I, cN_I, cI_L, cL_L, cA_L, cJ_L, cR_L, cN_L, cI_A, cL_A, cA_A, cJ_A, cR_A, cN_A, cI_J, cL_J, cA_J, cJ_J, cR_J, cN_J, cI_R, cL_R, cA_R, cJ_R, cR_R, cN_R, cI_N, cL_N, cA_N, cJ_N, cR_N, cN_N, ↓reduceIte, Nat.reduceEqDiff, upd_at, updL_at] at h4
    refine aw_aload_n (i := 0) C (dec D_Mod_goes rfl) rfl rfl ?_
    refine gf_Mod_21 C (dec D_Mod_goes rfl) ?_
    refine aw_if_ne (tgt := 21) C (dec D_Mod_goes rfl) (by decide) (fun h16 => ?_) (fun h16 => ?_)
    · try simp only [mI_I, mL_I, mA_I, mJ_I, mI_L, mL_L, mA_L, mJ_L, mI_A, mL_A, mA_A, mJ_A, mI_J, mL_J, mA_J, mJ_J, cI_I, cL_I, cA_I, cJ_I, cR_I, cN_I, cI_L, cL_L, cA_L, cJ_L, cR_L, cN_L, cI_A, cL_A, cA_A, cJ_A, cR_A, cN_A, cI_J, cL_J, cA_J, cJ_J, cR_J, cN_J, cI_R, cL_R, cA_R, cJ_R, cR_R, cN_R, cI_N, cL_N, cA_N, cJ_N, cR_N, cN_N, ↓reduceIte, Nat.reduceEqDiff, upd_at, updL_at] at h16
      refine aw_aload_n (i := 0) C (dec D_Mod_goes rfl) rfl rfl ?_
      refine aw_aload_n (i := 0) C (dec D_Mod_goes rfl) rfl rfl ?_
      refine gf_Mod_17 C (dec D_Mod_goes rfl) ?_
      refine aw_if_le (tgt := 38) C (dec D_Mod_goes rfl) (by decide) (fun h26 => ?_) (fun h26 => ?_)
      · try simp only [mI_I, mL_I, mA_I, mJ_I, mI_L, mL_L, mA_L, mJ_L, mI_A, mL_A, mA_A, mJ_A, mI_J, mL_J, mA_J, mJ_J, cI_I, cL_I, cA_I, cJ_I, cR_I, cN_I, cI_L, cL_L, cA_L, cJ_L, cR_L, cN_L, cI_A, cL_A, cA_A, cJ_A, cR_A, cN_A, cI_J, cL_J, cA_J, cJ_J, cR_J, cN_J, cI_R, cL_R, cA_R, cJ_R, cR_R, cN_R, cI_N, cL_N, cA_N, cJ_N, cR_N, cN_N, ↓reduceIte, Nat.reduceEqDiff, upd_at, updL_at] at h26
        refine aw_aload_n (i := 0) C (dec D_Mod_goes rfl) rfl rfl ?_
        refine gf_Mod_17 C (dec D_Mod_goes rfl) ?_
        refine pf_Mod_17 C Fw (dec D_Mod_goes rfl) ?_
        refine aw_aload_n (i := 0) C (dec D_Mod_goes rfl) rfl rfl ?_
        refine aw_iload_n (i := 1) C (dec D_Mod_goes rfl) rfl rfl ?_
        refine aw_cv C ci_Mod_91 [_] (c_Mod_turnTo _ _ _ _ _ _ _) (dec D_Mod_goes rfl) rcM rfl (fpW Fw) (Nat.le_of_ble_eq_true rfl) (by decide) ⟨by decide, by decide⟩ (fun v w2 hp => ?_) (fun _ _ h => by cases h.1)
        obtain ⟨hv, rfl⟩ := hp
        cases hv
        refine aw_iconst (v := 1) C (dec D_Mod_goes rfl) (by decide) ?_
        refine aw_ret_i C r (dec D_Mod_goes rfl) rfl (by decide) (by decide) ?_
        first | exact absurd trivial ‹¬True› | exact False.elim ‹False› | (refine ⟨?_, ?_⟩ <;> first | rfl | (simp [mI_I, mL_I, mA_I, mJ_I, mI_L, mL_L, mA_L, mJ_L, mI_A, mL_A, mA_A, mJ_A, mI_J, mL_J, mA_J, mJ_J, cI_I, cL_I, cA_I, cJ_I, cR_I, cN_I, cI_L, cL_L, cA_L, cJ_L, cR_L, cN_L, cI_A, cL_A, cA_A, cJ_A, cR_A, cN_A, cI_J, cL_J, cA_J, cJ_J, cR_J, cN_J, cI_R, cL_R, cA_R, cJ_R, cR_R, cN_R, cI_N, cL_N, cA_N, cJ_N, cR_N, cN_N, ↓reduceIte, Nat.reduceEqDiff, upd_at, updL_at, h4, h16, h26, mGoesR, mGoes, mGo1, mSpend]; done) | (simp [mI_I, mL_I, mA_I, mJ_I, mI_L, mL_L, mA_L, mJ_L, mI_A, mL_A, mA_A, mJ_A, mI_J, mL_J, mA_J, mJ_J, cI_I, cL_I, cA_I, cJ_I, cR_I, cN_I, cI_L, cL_L, cA_L, cJ_L, cR_L, cN_L, cI_A, cL_A, cA_A, cJ_A, cR_A, cN_A, cI_J, cL_J, cA_J, cJ_J, cR_J, cN_J, cI_R, cL_R, cA_R, cJ_R, cR_R, cN_R, cI_N, cL_N, cA_N, cJ_N, cR_N, cN_N, ↓reduceIte, Nat.reduceEqDiff, upd_at, updL_at, h4, h16, h26, mGoesR, mGoes, mGo1, mSpend]; rfl))
      · try simp only [mI_I, mL_I, mA_I, mJ_I, mI_L, mL_L, mA_L, mJ_L, mI_A, mL_A, mA_A, mJ_A, mI_J, mL_J, mA_J, mJ_J, cI_I, cL_I, cA_I, cJ_I, cR_I, cN_I, cI_L, cL_L, cA_L, cJ_L, cR_L, cN_L, cI_A, cL_A, cA_A, cJ_A, cR_A, cN_A, cI_J, cL_J, cA_J, cJ_J, cR_J, cN_J, cI_R, cL_R, cA_R, cJ_R, cR_R, cN_R, cI_N, cL_N, cA_N, cJ_N, cR_N, cN_N, ↓reduceIte, Nat.reduceEqDiff, upd_at, updL_at] at h26
        refine aw_aload_n (i := 0) C (dec D_Mod_goes rfl) rfl rfl ?_
        refine gf_Mod_17 C (dec D_Mod_goes rfl) ?_
        refine aw_iconst (v := 1) C (dec D_Mod_goes rfl) (by decide) ?_
        refine aw_isub C (dec D_Mod_goes rfl) ?_
        refine aw_goto (tgt := 42) C (dec D_Mod_goes rfl) (by decide) ?_
        refine pf_Mod_17 C Fw (dec D_Mod_goes rfl) ?_
        refine aw_aload_n (i := 0) C (dec D_Mod_goes rfl) rfl rfl ?_
        refine aw_iload_n (i := 1) C (dec D_Mod_goes rfl) rfl rfl ?_
        refine aw_cv C ci_Mod_91 [_] (c_Mod_turnTo _ _ _ _ _ _ _) (dec D_Mod_goes rfl) rcM rfl (fpW Fw) (Nat.le_of_ble_eq_true rfl) (by decide) ⟨by decide, by decide⟩ (fun v w2 hp => ?_) (fun _ _ h => by cases h.1)
        obtain ⟨hv, rfl⟩ := hp
        cases hv
        refine aw_iconst (v := 1) C (dec D_Mod_goes rfl) (by decide) ?_
        refine aw_ret_i C r (dec D_Mod_goes rfl) rfl (by decide) (by decide) ?_
        first | exact absurd trivial ‹¬True› | exact False.elim ‹False› | (refine ⟨?_, ?_⟩ <;> first | rfl | (simp [mI_I, mL_I, mA_I, mJ_I, mI_L, mL_L, mA_L, mJ_L, mI_A, mL_A, mA_A, mJ_A, mI_J, mL_J, mA_J, mJ_J, cI_I, cL_I, cA_I, cJ_I, cR_I, cN_I, cI_L, cL_L, cA_L, cJ_L, cR_L, cN_L, cI_A, cL_A, cA_A, cJ_A, cR_A, cN_A, cI_J, cL_J, cA_J, cJ_J, cR_J, cN_J, cI_R, cL_R, cA_R, cJ_R, cR_R, cN_R, cI_N, cL_N, cA_N, cJ_N, cR_N, cN_N, ↓reduceIte, Nat.reduceEqDiff, upd_at, updL_at, h4, h16, h26, mGoesR, mGoes, mGo1, mSpend]; done) | (simp [mI_I, mL_I, mA_I, mJ_I, mI_L, mL_L, mA_L, mJ_L, mI_A, mL_A, mA_A, mJ_A, mI_J, mL_J, mA_J, mJ_J, cI_I, cL_I, cA_I, cJ_I, cR_I, cN_I, cI_L, cL_L, cA_L, cJ_L, cR_L, cN_L, cI_A, cL_A, cA_A, cJ_A, cR_A, cN_A, cI_J, cL_J, cA_J, cJ_J, cR_J, cN_J, cI_R, cL_R, cA_R, cJ_R, cR_R, cN_R, cI_N, cL_N, cA_N, cJ_N, cR_N, cN_N, ↓reduceIte, Nat.reduceEqDiff, upd_at, updL_at, h4, h16, h26, mGoesR, mGoes, mGo1, mSpend]; rfl))
    · try simp only [mI_I, mL_I, mA_I, mJ_I, mI_L, mL_L, mA_L, mJ_L, mI_A, mL_A, mA_A, mJ_A, mI_J, mL_J, mA_J, mJ_J, cI_I, cL_I, cA_I, cJ_I, cR_I, cN_I, cI_L, cL_L, cA_L, cJ_L, cR_L, cN_L, cI_A, cL_A, cA_A, cJ_A, cR_A, cN_A, cI_J, cL_J, cA_J, cJ_J, cR_J, cN_J, cI_R, cL_R, cA_R, cJ_R, cR_R, cN_R, cI_N, cL_N, cA_N, cJ_N, cR_N, cN_N, ↓reduceIte, Nat.reduceEqDiff, upd_at, updL_at] at h16
      refine aw_iconst (v := 0) C (dec D_Mod_goes rfl) (by decide) ?_
      refine aw_ret_i C r (dec D_Mod_goes rfl) rfl (by decide) (by decide) ?_
      first | exact absurd trivial ‹¬True› | exact False.elim ‹False› | (refine ⟨?_, ?_⟩ <;> first | rfl | (simp [mI_I, mL_I, mA_I, mJ_I, mI_L, mL_L, mA_L, mJ_L, mI_A, mL_A, mA_A, mJ_A, mI_J, mL_J, mA_J, mJ_J, cI_I, cL_I, cA_I, cJ_I, cR_I, cN_I, cI_L, cL_L, cA_L, cJ_L, cR_L, cN_L, cI_A, cL_A, cA_A, cJ_A, cR_A, cN_A, cI_J, cL_J, cA_J, cJ_J, cR_J, cN_J, cI_R, cL_R, cA_R, cJ_R, cR_R, cN_R, cI_N, cL_N, cA_N, cJ_N, cR_N, cN_N, ↓reduceIte, Nat.reduceEqDiff, upd_at, updL_at, h4, h16, mGoesR, mGoes, mGo1, mSpend]; done) | (simp [mI_I, mL_I, mA_I, mJ_I, mI_L, mL_L, mA_L, mJ_L, mI_A, mL_A, mA_A, mJ_A, mI_J, mL_J, mA_J, mJ_J, cI_I, cL_I, cA_I, cJ_I, cR_I, cN_I, cI_L, cL_L, cA_L, cJ_L, cR_L, cN_L, cI_A, cL_A, cA_A, cJ_A, cR_A, cN_A, cI_J, cL_J, cA_J, cJ_J, cR_J, cN_J, cI_R, cL_R, cA_R, cJ_R, cR_R, cN_R, cI_N, cL_N, cA_N, cJ_N, cR_N, cN_N, ↓reduceIte, Nat.reduceEqDiff, upd_at, updL_at, h4, h16, mGoesR, mGoes, mGo1, mSpend]; rfl))
  · try simp only [mI_I, mL_I, mA_I, mJ_I, mI_L, mL_L, mA_L, mJ_L, mI_A, mL_A, mA_A, mJ_A, mI_J, mL_J, mA_J, mJ_J, cI_I, cL_I, cA_I, cJ_I, cR_I, cN_I, cI_L, cL_L, cA_L, cJ_L, cR_L, cN_L, cI_A, cL_A, cA_A, cJ_A, cR_A, cN_A, cI_J, cL_J, cA_J, cJ_J, cR_J, cN_J, cI_R, cL_R, cA_R, cJ_R, cR_R, cN_R, cI_N, cL_N, cA_N, cJ_N, cR_N, cN_N, ↓reduceIte, Nat.reduceEqDiff, upd_at, updL_at] at h4
    refine aw_aload_n (i := 0) C (dec D_Mod_goes rfl) rfl rfl ?_
    refine aw_iconst (v := 0) C (dec D_Mod_goes rfl) (by decide) ?_
    refine pf_Mod_21 C Fw bz0 (dec D_Mod_goes rfl) ?_
    refine aw_aload_n (i := 0) C (dec D_Mod_goes rfl) rfl rfl ?_
    refine gf_Mod_21 C (dec D_Mod_goes rfl) ?_
    refine aw_if_ne (tgt := 21) C (dec D_Mod_goes rfl) (by decide) (fun h16 => ?_) (fun h16 => ?_)
    · try simp only [mI_I, mL_I, mA_I, mJ_I, mI_L, mL_L, mA_L, mJ_L, mI_A, mL_A, mA_A, mJ_A, mI_J, mL_J, mA_J, mJ_J, cI_I, cL_I, cA_I, cJ_I, cR_I, cN_I, cI_L, cL_L, cA_L, cJ_L, cR_L, cN_L, cI_A, cL_A, cA_A, cJ_A, cR_A, cN_A, cI_J, cL_J, cA_J, cJ_J, cR_J, cN_J, cI_R, cL_R, cA_R, cJ_R, cR_R, cN_R, cI_N, cL_N, cA_N, cJ_N, cR_N, cN_N, ↓reduceIte, Nat.reduceEqDiff, upd_at, updL_at] at h16
      refine aw_aload_n (i := 0) C (dec D_Mod_goes rfl) rfl rfl ?_
      refine aw_aload_n (i := 0) C (dec D_Mod_goes rfl) rfl rfl ?_
      refine gf_Mod_17 C (dec D_Mod_goes rfl) ?_
      refine aw_if_le (tgt := 38) C (dec D_Mod_goes rfl) (by decide) (fun h26 => ?_) (fun h26 => ?_)
      · try simp only [mI_I, mL_I, mA_I, mJ_I, mI_L, mL_L, mA_L, mJ_L, mI_A, mL_A, mA_A, mJ_A, mI_J, mL_J, mA_J, mJ_J, cI_I, cL_I, cA_I, cJ_I, cR_I, cN_I, cI_L, cL_L, cA_L, cJ_L, cR_L, cN_L, cI_A, cL_A, cA_A, cJ_A, cR_A, cN_A, cI_J, cL_J, cA_J, cJ_J, cR_J, cN_J, cI_R, cL_R, cA_R, cJ_R, cR_R, cN_R, cI_N, cL_N, cA_N, cJ_N, cR_N, cN_N, ↓reduceIte, Nat.reduceEqDiff, upd_at, updL_at] at h26
        refine aw_aload_n (i := 0) C (dec D_Mod_goes rfl) rfl rfl ?_
        refine gf_Mod_17 C (dec D_Mod_goes rfl) ?_
        refine pf_Mod_17 C Fw (dec D_Mod_goes rfl) ?_
        refine aw_aload_n (i := 0) C (dec D_Mod_goes rfl) rfl rfl ?_
        refine aw_iload_n (i := 1) C (dec D_Mod_goes rfl) rfl rfl ?_
        refine aw_cv C ci_Mod_91 [_] (c_Mod_turnTo _ _ _ _ _ _ _) (dec D_Mod_goes rfl) rcM rfl (fpW Fw) (Nat.le_of_ble_eq_true rfl) (by decide) ⟨by decide, by decide⟩ (fun v w2 hp => ?_) (fun _ _ h => by cases h.1)
        obtain ⟨hv, rfl⟩ := hp
        cases hv
        refine aw_iconst (v := 1) C (dec D_Mod_goes rfl) (by decide) ?_
        refine aw_ret_i C r (dec D_Mod_goes rfl) rfl (by decide) (by decide) ?_
        first | exact absurd trivial ‹¬True› | exact False.elim ‹False› | (refine ⟨?_, ?_⟩ <;> first | rfl | (simp [mI_I, mL_I, mA_I, mJ_I, mI_L, mL_L, mA_L, mJ_L, mI_A, mL_A, mA_A, mJ_A, mI_J, mL_J, mA_J, mJ_J, cI_I, cL_I, cA_I, cJ_I, cR_I, cN_I, cI_L, cL_L, cA_L, cJ_L, cR_L, cN_L, cI_A, cL_A, cA_A, cJ_A, cR_A, cN_A, cI_J, cL_J, cA_J, cJ_J, cR_J, cN_J, cI_R, cL_R, cA_R, cJ_R, cR_R, cN_R, cI_N, cL_N, cA_N, cJ_N, cR_N, cN_N, ↓reduceIte, Nat.reduceEqDiff, upd_at, updL_at, h4, h16, h26, mGoesR, mGoes, mGo1, mSpend]; done) | (simp [mI_I, mL_I, mA_I, mJ_I, mI_L, mL_L, mA_L, mJ_L, mI_A, mL_A, mA_A, mJ_A, mI_J, mL_J, mA_J, mJ_J, cI_I, cL_I, cA_I, cJ_I, cR_I, cN_I, cI_L, cL_L, cA_L, cJ_L, cR_L, cN_L, cI_A, cL_A, cA_A, cJ_A, cR_A, cN_A, cI_J, cL_J, cA_J, cJ_J, cR_J, cN_J, cI_R, cL_R, cA_R, cJ_R, cR_R, cN_R, cI_N, cL_N, cA_N, cJ_N, cR_N, cN_N, ↓reduceIte, Nat.reduceEqDiff, upd_at, updL_at, h4, h16, h26, mGoesR, mGoes, mGo1, mSpend]; rfl))
      · try simp only [mI_I, mL_I, mA_I, mJ_I, mI_L, mL_L, mA_L, mJ_L, mI_A, mL_A, mA_A, mJ_A, mI_J, mL_J, mA_J, mJ_J, cI_I, cL_I, cA_I, cJ_I, cR_I, cN_I, cI_L, cL_L, cA_L, cJ_L, cR_L, cN_L, cI_A, cL_A, cA_A, cJ_A, cR_A, cN_A, cI_J, cL_J, cA_J, cJ_J, cR_J, cN_J, cI_R, cL_R, cA_R, cJ_R, cR_R, cN_R, cI_N, cL_N, cA_N, cJ_N, cR_N, cN_N, ↓reduceIte, Nat.reduceEqDiff, upd_at, updL_at] at h26
        refine aw_aload_n (i := 0) C (dec D_Mod_goes rfl) rfl rfl ?_
        refine gf_Mod_17 C (dec D_Mod_goes rfl) ?_
        refine aw_iconst (v := 1) C (dec D_Mod_goes rfl) (by decide) ?_
        refine aw_isub C (dec D_Mod_goes rfl) ?_
        refine aw_goto (tgt := 42) C (dec D_Mod_goes rfl) (by decide) ?_
        refine pf_Mod_17 C Fw (dec D_Mod_goes rfl) ?_
        refine aw_aload_n (i := 0) C (dec D_Mod_goes rfl) rfl rfl ?_
        refine aw_iload_n (i := 1) C (dec D_Mod_goes rfl) rfl rfl ?_
        refine aw_cv C ci_Mod_91 [_] (c_Mod_turnTo _ _ _ _ _ _ _) (dec D_Mod_goes rfl) rcM rfl (fpW Fw) (Nat.le_of_ble_eq_true rfl) (by decide) ⟨by decide, by decide⟩ (fun v w2 hp => ?_) (fun _ _ h => by cases h.1)
        obtain ⟨hv, rfl⟩ := hp
        cases hv
        refine aw_iconst (v := 1) C (dec D_Mod_goes rfl) (by decide) ?_
        refine aw_ret_i C r (dec D_Mod_goes rfl) rfl (by decide) (by decide) ?_
        first | exact absurd trivial ‹¬True› | exact False.elim ‹False› | (refine ⟨?_, ?_⟩ <;> first | rfl | (simp [mI_I, mL_I, mA_I, mJ_I, mI_L, mL_L, mA_L, mJ_L, mI_A, mL_A, mA_A, mJ_A, mI_J, mL_J, mA_J, mJ_J, cI_I, cL_I, cA_I, cJ_I, cR_I, cN_I, cI_L, cL_L, cA_L, cJ_L, cR_L, cN_L, cI_A, cL_A, cA_A, cJ_A, cR_A, cN_A, cI_J, cL_J, cA_J, cJ_J, cR_J, cN_J, cI_R, cL_R, cA_R, cJ_R, cR_R, cN_R, cI_N, cL_N, cA_N, cJ_N, cR_N, cN_N, ↓reduceIte, Nat.reduceEqDiff, upd_at, updL_at, h4, h16, h26, mGoesR, mGoes, mGo1, mSpend]; done) | (simp [mI_I, mL_I, mA_I, mJ_I, mI_L, mL_L, mA_L, mJ_L, mI_A, mL_A, mA_A, mJ_A, mI_J, mL_J, mA_J, mJ_J, cI_I, cL_I, cA_I, cJ_I, cR_I, cN_I, cI_L, cL_L, cA_L, cJ_L, cR_L, cN_L, cI_A, cL_A, cA_A, cJ_A, cR_A, cN_A, cI_J, cL_J, cA_J, cJ_J, cR_J, cN_J, cI_R, cL_R, cA_R, cJ_R, cR_R, cN_R, cI_N, cL_N, cA_N, cJ_N, cR_N, cN_N, ↓reduceIte, Nat.reduceEqDiff, upd_at, updL_at, h4, h16, h26, mGoesR, mGoes, mGo1, mSpend]; rfl))
    · try simp only [mI_I, mL_I, mA_I, mJ_I, mI_L, mL_L, mA_L, mJ_L, mI_A, mL_A, mA_A, mJ_A, mI_J, mL_J, mA_J, mJ_J, cI_I, cL_I, cA_I, cJ_I, cR_I, cN_I, cI_L, cL_L, cA_L, cJ_L, cR_L, cN_L, cI_A, cL_A, cA_A, cJ_A, cR_A, cN_A, cI_J, cL_J, cA_J, cJ_J, cR_J, cN_J, cI_R, cL_R, cA_R, cJ_R, cR_R, cN_R, cI_N, cL_N, cA_N, cJ_N, cR_N, cN_N, ↓reduceIte, Nat.reduceEqDiff, upd_at, updL_at] at h16
      refine aw_iconst (v := 0) C (dec D_Mod_goes rfl) (by decide) ?_
      refine aw_ret_i C r (dec D_Mod_goes rfl) rfl (by decide) (by decide) ?_
      first | exact absurd trivial ‹¬True› | exact False.elim ‹False› | (refine ⟨?_, ?_⟩ <;> first | rfl | (simp [mI_I, mL_I, mA_I, mJ_I, mI_L, mL_L, mA_L, mJ_L, mI_A, mL_A, mA_A, mJ_A, mI_J, mL_J, mA_J, mJ_J, cI_I, cL_I, cA_I, cJ_I, cR_I, cN_I, cI_L, cL_L, cA_L, cJ_L, cR_L, cN_L, cI_A, cL_A, cA_A, cJ_A, cR_A, cN_A, cI_J, cL_J, cA_J, cJ_J, cR_J, cN_J, cI_R, cL_R, cA_R, cJ_R, cR_R, cN_R, cI_N, cL_N, cA_N, cJ_N, cR_N, cN_N, ↓reduceIte, Nat.reduceEqDiff, upd_at, updL_at, h4, h16, mGoesR, mGoes, mGo1, mSpend]; done) | (simp [mI_I, mL_I, mA_I, mJ_I, mI_L, mL_L, mA_L, mJ_L, mI_A, mL_A, mA_A, mJ_A, mI_J, mL_J, mA_J, mJ_J, cI_I, cL_I, cA_I, cJ_I, cR_I, cN_I, cI_L, cL_L, cA_L, cJ_L, cR_L, cN_L, cI_A, cL_A, cA_A, cJ_A, cR_A, cN_A, cI_J, cL_J, cA_J, cJ_J, cR_J, cN_J, cI_R, cL_R, cA_R, cJ_R, cR_R, cN_R, cI_N, cL_N, cA_N, cJ_N, cR_N, cN_N, ↓reduceIte, Nat.reduceEqDiff, upd_at, updL_at, h4, h16, mGoesR, mGoes, mGo1, mSpend]; rfl))
theorem c_Mod_write (l : Launch) (G : GG) (a : AD) (c : CC) (m : MM) (o : OO) (p : Nat) (v : Int64) (hp1 : p < 101) : CT l G y_Mod_write (.code y_Mod_write b_Mod_write 4 none) 3 0 0 (Fyes G) (wld G a c m o) [.ref (a 30 0), .int (nI p), .long v] (fun r w2 => r = .inl none ∧ w2 = wld G a c (mWrite m p v) o) := by
  refine CT.of (by decide) (Nat.le_of_ble_eq_true rfl) rfl ?_
  intro E hl hG hF C r hw hex hnm
  subst hl; subst hG
  have Fw : Cw E := fun a h => by rw [hF]; exact h
  refine aw_aload_n (i := 0) C (dec D_Mod_write rfl) rfl rfl ?_
  refine gf_Mod_21 C (dec D_Mod_write rfl) ?_
  refine aw_if_eq (tgt := 22) C (dec D_Mod_write rfl) (by decide) (fun h4 => ?_) (fun h4 => ?_)
  · try simp only [mI_I, mL_I, mA_I, mJ_I, mI_L, mL_L, mA_L, mJ_L, mI_A, mL_A, mA_A, mJ_A, mI_J, mL_J, mA_J, mJ_J, cI_I, cL_I, cA_I, cJ_I, cR_I, cN_I, cI_L, cL_L, cA_L, cJ_L, cR_L, cN_L, cI_A, cL_A, cA_A, cJ_A, cR_A, cN_A, cI_J, cL_J, cA_J, cJ_J, cR_J, cN_J, cI_R, cL_R, cA_R, cJ_R, cR_R, cN_R, cI_N, cL_N, cA_N, cJ_N, cR_N, cN_N, ↓reduceIte, Nat.reduceEqDiff, upd_at, updL_at] at h4
    refine aw_ret_v C r (dec D_Mod_write rfl) (by decide) (by decide) ?_
    first | exact absurd trivial ‹¬True› | exact False.elim ‹False› | (refine ⟨?_, ?_⟩ <;> first | rfl | (simp [mI_I, mL_I, mA_I, mJ_I, mI_L, mL_L, mA_L, mJ_L, mI_A, mL_A, mA_A, mJ_A, mI_J, mL_J, mA_J, mJ_J, cI_I, cL_I, cA_I, cJ_I, cR_I, cN_I, cI_L, cL_L, cA_L, cJ_L, cR_L, cN_L, cI_A, cL_A, cA_A, cJ_A, cR_A, cN_A, cI_J, cL_J, cA_J, cJ_J, cR_J, cN_J, cI_R, cL_R, cA_R, cJ_R, cR_R, cN_R, cI_N, cL_N, cA_N, cJ_N, cR_N, cN_N, ↓reduceIte, Nat.reduceEqDiff, upd_at, updL_at, h4, mWrite]; done) | (simp [mI_I, mL_I, mA_I, mJ_I, mI_L, mL_L, mA_L, mJ_L, mI_A, mL_A, mA_A, mJ_A, mI_J, mL_J, mA_J, mJ_J, cI_I, cL_I, cA_I, cJ_I, cR_I, cN_I, cI_L, cL_L, cA_L, cJ_L, cR_L, cN_L, cI_A, cL_A, cA_A, cJ_A, cR_A, cN_A, cI_J, cL_J, cA_J, cJ_J, cR_J, cN_J, cI_R, cL_R, cA_R, cJ_R, cR_R, cN_R, cI_N, cL_N, cA_N, cJ_N, cR_N, cN_N, ↓reduceIte, Nat.reduceEqDiff, upd_at, updL_at, h4, mWrite]; rfl))
  · try simp only [mI_I, mL_I, mA_I, mJ_I, mI_L, mL_L, mA_L, mJ_L, mI_A, mL_A, mA_A, mJ_A, mI_J, mL_J, mA_J, mJ_J, cI_I, cL_I, cA_I, cJ_I, cR_I, cN_I, cI_L, cL_L, cA_L, cJ_L, cR_L, cN_L, cI_A, cL_A, cA_A, cJ_A, cR_A, cN_A, cI_J, cL_J, cA_J, cJ_J, cR_J, cN_J, cI_R, cL_R, cA_R, cJ_R, cR_R, cN_R, cI_N, cL_N, cA_N, cJ_N, cR_N, cN_N, ↓reduceIte, Nat.reduceEqDiff, upd_at, updL_at] at h4
    refine aw_aload_n (i := 0) C (dec D_Mod_write rfl) rfl rfl ?_
    refine aw_iload_n (i := 1) C (dec D_Mod_write rfl) rfl rfl ?_
    refine aw_cv C ci_Mod_95 [_] (c_Mod_goes _ _ _ _ _ _ _) (dec D_Mod_write rfl) rcM rfl (fpW Fw) (Nat.le_of_ble_eq_true rfl) (by decide) ⟨by decide, by decide⟩ (fun v w2 hp => ?_) (fun _ _ h => by cases h.1)
    obtain ⟨hv, rfl⟩ := hp
    cases hv
    refine aw_if_eq (tgt := 22) C (dec D_Mod_write rfl) (by decide) (fun h12 => ?_) (fun h12 => ?_)
    · try simp only [mI_I, mL_I, mA_I, mJ_I, mI_L, mL_L, mA_L, mJ_L, mI_A, mL_A, mA_A, mJ_A, mI_J, mL_J, mA_J, mJ_J, cI_I, cL_I, cA_I, cJ_I, cR_I, cN_I, cI_L, cL_L, cA_L, cJ_L, cR_L, cN_L, cI_A, cL_A, cA_A, cJ_A, cR_A, cN_A, cI_J, cL_J, cA_J, cJ_J, cR_J, cN_J, cI_R, cL_R, cA_R, cJ_R, cR_R, cN_R, cI_N, cL_N, cA_N, cJ_N, cR_N, cN_N, ↓reduceIte, Nat.reduceEqDiff, upd_at, updL_at] at h12
      refine aw_ret_v C r (dec D_Mod_write rfl) (by decide) (by decide) ?_
      first | exact absurd trivial ‹¬True› | exact False.elim ‹False› | (refine ⟨?_, ?_⟩ <;> first | rfl | (simp [mI_I, mL_I, mA_I, mJ_I, mI_L, mL_L, mA_L, mJ_L, mI_A, mL_A, mA_A, mJ_A, mI_J, mL_J, mA_J, mJ_J, cI_I, cL_I, cA_I, cJ_I, cR_I, cN_I, cI_L, cL_L, cA_L, cJ_L, cR_L, cN_L, cI_A, cL_A, cA_A, cJ_A, cR_A, cN_A, cI_J, cL_J, cA_J, cJ_J, cR_J, cN_J, cI_R, cL_R, cA_R, cJ_R, cR_R, cN_R, cI_N, cL_N, cA_N, cJ_N, cR_N, cN_N, ↓reduceIte, Nat.reduceEqDiff, upd_at, updL_at, h4, h12, mWrite]; done) | (simp [mI_I, mL_I, mA_I, mJ_I, mI_L, mL_L, mA_L, mJ_L, mI_A, mL_A, mA_A, mJ_A, mI_J, mL_J, mA_J, mJ_J, cI_I, cL_I, cA_I, cJ_I, cR_I, cN_I, cI_L, cL_L, cA_L, cJ_L, cR_L, cN_L, cI_A, cL_A, cA_A, cJ_A, cR_A, cN_A, cI_J, cL_J, cA_J, cJ_J, cR_J, cN_J, cI_R, cL_R, cA_R, cJ_R, cR_R, cN_R, cI_N, cL_N, cA_N, cJ_N, cR_N, cN_N, ↓reduceIte, Nat.reduceEqDiff, upd_at, updL_at, h4, h12, mWrite]; rfl))
    · try simp only [mI_I, mL_I, mA_I, mJ_I, mI_L, mL_L, mA_L, mJ_L, mI_A, mL_A, mA_A, mJ_A, mI_J, mL_J, mA_J, mJ_J, cI_I, cL_I, cA_I, cJ_I, cR_I, cN_I, cI_L, cL_L, cA_L, cJ_L, cR_L, cN_L, cI_A, cL_A, cA_A, cJ_A, cR_A, cN_A, cI_J, cL_J, cA_J, cJ_J, cR_J, cN_J, cI_R, cL_R, cA_R, cJ_R, cR_R, cN_R, cI_N, cL_N, cA_N, cJ_N, cR_N, cN_N, ↓reduceIte, Nat.reduceEqDiff, upd_at, updL_at] at h12
      refine aw_aload_n (i := 0) C (dec D_Mod_write rfl) rfl rfl ?_
      refine gf_Mod_13 C (dec D_Mod_write rfl) ?_
      refine aw_iload_n (i := 1) C (dec D_Mod_write rfl) rfl rfl ?_
      refine aw_lload_n (i := 2) C (dec D_Mod_write rfl) rfl rfl ?_
      refine as_M2 C Fw p (dec D_Mod_write rfl) (ix_of hp1) ?_
      refine aw_ret_v C r (dec D_Mod_write rfl) (by decide) (by decide) ?_
      first | exact absurd trivial ‹¬True› | exact False.elim ‹False› | (refine ⟨?_, ?_⟩ <;> first | rfl | (simp [mI_I, mL_I, mA_I, mJ_I, mI_L, mL_L, mA_L, mJ_L, mI_A, mL_A, mA_A, mJ_A, mI_J, mL_J, mA_J, mJ_J, cI_I, cL_I, cA_I, cJ_I, cR_I, cN_I, cI_L, cL_L, cA_L, cJ_L, cR_L, cN_L, cI_A, cL_A, cA_A, cJ_A, cR_A, cN_A, cI_J, cL_J, cA_J, cJ_J, cR_J, cN_J, cI_R, cL_R, cA_R, cJ_R, cR_R, cN_R, cI_N, cL_N, cA_N, cJ_N, cR_N, cN_N, ↓reduceIte, Nat.reduceEqDiff, upd_at, updL_at, h4, h12, mWrite]; done) | (simp [mI_I, mL_I, mA_I, mJ_I, mI_L, mL_L, mA_L, mJ_L, mI_A, mL_A, mA_A, mJ_A, mI_J, mL_J, mA_J, mJ_J, cI_I, cL_I, cA_I, cJ_I, cR_I, cN_I, cI_L, cL_L, cA_L, cJ_L, cR_L, cN_L, cI_A, cL_A, cA_A, cJ_A, cR_A, cN_A, cI_J, cL_J, cA_J, cJ_J, cR_J, cN_J, cI_R, cL_R, cA_R, cJ_R, cR_R, cN_R, cI_N, cL_N, cA_N, cJ_N, cR_N, cN_N, ↓reduceIte, Nat.reduceEqDiff, upd_at, updL_at, h4, h12, mWrite]; rfl))
theorem c_Mod_read (l : Launch) (G : GG) (a : AD) (c : CC) (m : MM) (o : OO) (p : Nat) (hp1 : p < 101) : CT l G y_Mod_read (.code y_Mod_read b_Mod_read 2 (some .long)) 3 0 0 (Fyes G) (wld G a c m o) [.ref (a 30 0), .int (nI p)] (fun r w2 => r = .inl (some (.long (mReadR m p))) ∧ w2 = wld G a c (mRead m p) o) := by
  refine CT.of (by decide) (Nat.le_of_ble_eq_true rfl) rfl ?_
  intro E hl hG hF C r hw hex hnm
  subst hl; subst hG
  have Fw : Cw E := fun a h => by rw [hF]; exact h
  refine aw_aload_n (i := 0) C (dec D_Mod_read rfl) rfl rfl ?_
  refine gf_Mod_21 C (dec D_Mod_read rfl) ?_
  refine aw_if_eq (tgt := 24) C (dec D_Mod_read rfl) (by decide) (fun h4 => ?_) (fun h4 => ?_)
  · try simp only [mI_I, mL_I, mA_I, mJ_I, mI_L, mL_L, mA_L, mJ_L, mI_A, mL_A, mA_A, mJ_A, mI_J, mL_J, mA_J, mJ_J, cI_I, cL_I, cA_I, cJ_I, cR_I, cN_I, cI_L, cL_L, cA_L, cJ_L, cR_L, cN_L, cI_A, cL_A, cA_A, cJ_A, cR_A, cN_A, cI_J, cL_J, cA_J, cJ_J, cR_J, cN_J, cI_R, cL_R, cA_R, cJ_R, cR_R, cN_R, cI_N, cL_N, cA_N, cJ_N, cR_N, cN_N, ↓reduceIte, Nat.reduceEqDiff, upd_at, updL_at] at h4
    refine aw_lconst (v := 0) C (dec D_Mod_read rfl) (by decide) ?_
    refine aw_ret_l C r (dec D_Mod_read rfl) (by decide) (by decide) ?_
    first | exact absurd trivial ‹¬True› | exact False.elim ‹False› | (refine ⟨?_, ?_⟩ <;> first | rfl | (simp [mI_I, mL_I, mA_I, mJ_I, mI_L, mL_L, mA_L, mJ_L, mI_A, mL_A, mA_A, mJ_A, mI_J, mL_J, mA_J, mJ_J, cI_I, cL_I, cA_I, cJ_I, cR_I, cN_I, cI_L, cL_L, cA_L, cJ_L, cR_L, cN_L, cI_A, cL_A, cA_A, cJ_A, cR_A, cN_A, cI_J, cL_J, cA_J, cJ_J, cR_J, cN_J, cI_R, cL_R, cA_R, cJ_R, cR_R, cN_R, cI_N, cL_N, cA_N, cJ_N, cR_N, cN_N, ↓reduceIte, Nat.reduceEqDiff, upd_at, updL_at, h4, mRead, mReadR]; done) | (simp [mI_I, mL_I, mA_I, mJ_I, mI_L, mL_L, mA_L, mJ_L, mI_A, mL_A, mA_A, mJ_A, mI_J, mL_J, mA_J, mJ_J, cI_I, cL_I, cA_I, cJ_I, cR_I, cN_I, cI_L, cL_L, cA_L, cJ_L, cR_L, cN_L, cI_A, cL_A, cA_A, cJ_A, cR_A, cN_A, cI_J, cL_J, cA_J, cJ_J, cR_J, cN_J, cI_R, cL_R, cA_R, cJ_R, cR_R, cN_R, cI_N, cL_N, cA_N, cJ_N, cR_N, cN_N, ↓reduceIte, Nat.reduceEqDiff, upd_at, updL_at, h4, mRead, mReadR]; rfl))
  · try simp only [mI_I, mL_I, mA_I, mJ_I, mI_L, mL_L, mA_L, mJ_L, mI_A, mL_A, mA_A, mJ_A, mI_J, mL_J, mA_J, mJ_J, cI_I, cL_I, cA_I, cJ_I, cR_I, cN_I, cI_L, cL_L, cA_L, cJ_L, cR_L, cN_L, cI_A, cL_A, cA_A, cJ_A, cR_A, cN_A, cI_J, cL_J, cA_J, cJ_J, cR_J, cN_J, cI_R, cL_R, cA_R, cJ_R, cR_R, cN_R, cI_N, cL_N, cA_N, cJ_N, cR_N, cN_N, ↓reduceIte, Nat.reduceEqDiff, upd_at, updL_at] at h4
    refine aw_aload_n (i := 0) C (dec D_Mod_read rfl) rfl rfl ?_
    refine aw_iload_n (i := 1) C (dec D_Mod_read rfl) rfl rfl ?_
    refine aw_cv C ci_Mod_95 [_] (c_Mod_goes _ _ _ _ _ _ _) (dec D_Mod_read rfl) rcM rfl (fpW Fw) (Nat.le_of_ble_eq_true rfl) (by decide) ⟨by decide, by decide⟩ (fun v w2 hp => ?_) (fun _ _ h => by cases h.1)
    obtain ⟨hv, rfl⟩ := hp
    cases hv
    refine aw_if_eq (tgt := 24) C (dec D_Mod_read rfl) (by decide) (fun h12 => ?_) (fun h12 => ?_)
    · try simp only [mI_I, mL_I, mA_I, mJ_I, mI_L, mL_L, mA_L, mJ_L, mI_A, mL_A, mA_A, mJ_A, mI_J, mL_J, mA_J, mJ_J, cI_I, cL_I, cA_I, cJ_I, cR_I, cN_I, cI_L, cL_L, cA_L, cJ_L, cR_L, cN_L, cI_A, cL_A, cA_A, cJ_A, cR_A, cN_A, cI_J, cL_J, cA_J, cJ_J, cR_J, cN_J, cI_R, cL_R, cA_R, cJ_R, cR_R, cN_R, cI_N, cL_N, cA_N, cJ_N, cR_N, cN_N, ↓reduceIte, Nat.reduceEqDiff, upd_at, updL_at] at h12
      refine aw_lconst (v := 0) C (dec D_Mod_read rfl) (by decide) ?_
      refine aw_ret_l C r (dec D_Mod_read rfl) (by decide) (by decide) ?_
      first | exact absurd trivial ‹¬True› | exact False.elim ‹False› | (refine ⟨?_, ?_⟩ <;> first | rfl | (simp [mI_I, mL_I, mA_I, mJ_I, mI_L, mL_L, mA_L, mJ_L, mI_A, mL_A, mA_A, mJ_A, mI_J, mL_J, mA_J, mJ_J, cI_I, cL_I, cA_I, cJ_I, cR_I, cN_I, cI_L, cL_L, cA_L, cJ_L, cR_L, cN_L, cI_A, cL_A, cA_A, cJ_A, cR_A, cN_A, cI_J, cL_J, cA_J, cJ_J, cR_J, cN_J, cI_R, cL_R, cA_R, cJ_R, cR_R, cN_R, cI_N, cL_N, cA_N, cJ_N, cR_N, cN_N, ↓reduceIte, Nat.reduceEqDiff, upd_at, updL_at, h4, h12, mRead, mReadR]; done) | (simp [mI_I, mL_I, mA_I, mJ_I, mI_L, mL_L, mA_L, mJ_L, mI_A, mL_A, mA_A, mJ_A, mI_J, mL_J, mA_J, mJ_J, cI_I, cL_I, cA_I, cJ_I, cR_I, cN_I, cI_L, cL_L, cA_L, cJ_L, cR_L, cN_L, cI_A, cL_A, cA_A, cJ_A, cR_A, cN_A, cI_J, cL_J, cA_J, cJ_J, cR_J, cN_J, cI_R, cL_R, cA_R, cJ_R, cR_R, cN_R, cI_N, cL_N, cA_N, cJ_N, cR_N, cN_N, ↓reduceIte, Nat.reduceEqDiff, upd_at, updL_at, h4, h12, mRead, mReadR]; rfl))
    · try simp only [mI_I, mL_I, mA_I, mJ_I, mI_L, mL_L, mA_L, mJ_L, mI_A, mL_A, mA_A, mJ_A, mI_J, mL_J, mA_J, mJ_J, cI_I, cL_I, cA_I, cJ_I, cR_I, cN_I, cI_L, cL_L, cA_L, cJ_L, cR_L, cN_L, cI_A, cL_A, cA_A, cJ_A, cR_A, cN_A, cI_J, cL_J, cA_J, cJ_J, cR_J, cN_J, cI_R, cL_R, cA_R, cJ_R, cR_R, cN_R, cI_N, cL_N, cA_N, cJ_N, cR_N, cN_N, ↓reduceIte, Nat.reduceEqDiff, upd_at, updL_at] at h12
      refine aw_aload_n (i := 0) C (dec D_Mod_read rfl) rfl rfl ?_
      refine gf_Mod_13 C (dec D_Mod_read rfl) ?_
      refine aw_iload_n (i := 1) C (dec D_Mod_read rfl) rfl rfl ?_
      refine al_M2 C p (dec D_Mod_read rfl) (ix_of hp1) ?_
      refine aw_goto (tgt := 25) C (dec D_Mod_read rfl) (by decide) ?_
      refine aw_ret_l C r (dec D_Mod_read rfl) (by decide) (by decide) ?_
      first | exact absurd trivial ‹¬True› | exact False.elim ‹False› | (refine ⟨?_, ?_⟩ <;> first | rfl | (simp [mI_I, mL_I, mA_I, mJ_I, mI_L, mL_L, mA_L, mJ_L, mI_A, mL_A, mA_A, mJ_A, mI_J, mL_J, mA_J, mJ_J, cI_I, cL_I, cA_I, cJ_I, cR_I, cN_I, cI_L, cL_L, cA_L, cJ_L, cR_L, cN_L, cI_A, cL_A, cA_A, cJ_A, cR_A, cN_A, cI_J, cL_J, cA_J, cJ_J, cR_J, cN_J, cI_R, cL_R, cA_R, cJ_R, cR_R, cN_R, cI_N, cL_N, cA_N, cJ_N, cR_N, cN_N, ↓reduceIte, Nat.reduceEqDiff, upd_at, updL_at, h4, h12, mRead, mReadR]; done) | (simp [mI_I, mL_I, mA_I, mJ_I, mI_L, mL_L, mA_L, mJ_L, mI_A, mL_A, mA_A, mJ_A, mI_J, mL_J, mA_J, mJ_J, cI_I, cL_I, cA_I, cJ_I, cR_I, cN_I, cI_L, cL_L, cA_L, cJ_L, cR_L, cN_L, cI_A, cL_A, cA_A, cJ_A, cR_A, cN_A, cI_J, cL_J, cA_J, cJ_J, cR_J, cN_J, cI_R, cL_R, cA_R, cJ_R, cR_R, cN_R, cI_N, cL_N, cA_N, cJ_N, cR_N, cN_N, ↓reduceIte, Nat.reduceEqDiff, upd_at, updL_at, h4, h12, mRead, mReadR]; rfl))
theorem c_Mod_drop (l : Launch) (G : GG) (a : AD) (c : CC) (m : MM) (o : OO) (f : Nat) (hf : f < 8) : CT l G y_Mod_drop (.code y_Mod_drop b_Mod_drop 2 none) 0 0 0 (Fyes G) (wld G a c m o) [.ref (a 30 0), .int (nI f)] (fun r w2 => r = .inl none ∧ w2 = wld G a c (mDrop m f) o) := by
  refine CT.of (by decide) (Nat.le_of_ble_eq_true rfl) rfl ?_
  intro E hl hG hF C r hw hex hnm
  subst hl; subst hG
  have Fw : Cw E := fun a h => by rw [hF]; exact h
  refine aw_aload_n (i := 0) C (dec D_Mod_drop rfl) rfl rfl ?_
  refine gf_Mod_25 C (dec D_Mod_drop rfl) ?_
  refine aw_iload_n (i := 1) C (dec D_Mod_drop rfl) rfl rfl ?_
  refine aw_iconst (v := 0) C (dec D_Mod_drop rfl) (by decide) ?_
  refine as_M3 C Fw f (dec D_Mod_drop rfl) (ix_of hf) ?_
  refine aw_aload_n (i := 0) C (dec D_Mod_drop rfl) rfl rfl ?_
  refine gf_Mod_29 C (dec D_Mod_drop rfl) ?_
  refine aw_iload_n (i := 1) C (dec D_Mod_drop rfl) rfl rfl ?_
  refine aw_iconst (v := 0) C (dec D_Mod_drop rfl) (by decide) ?_
  refine as_M4 C Fw f (dec D_Mod_drop rfl) (ix_of hf) ?_
  refine aw_aload_n (i := 0) C (dec D_Mod_drop rfl) rfl rfl ?_
  refine gf_Mod_35 C (dec D_Mod_drop rfl) ?_
  refine aw_iload_n (i := 1) C (dec D_Mod_drop rfl) rfl rfl ?_
  refine aw_iconst (v := (-1)) C (dec D_Mod_drop rfl) (by decide) ?_
  refine as_M6 C Fw f (dec D_Mod_drop rfl) (ix_of hf) ?_
  refine aw_aload_n (i := 0) C (dec D_Mod_drop rfl) rfl rfl ?_
  refine gf_Mod_41 C (dec D_Mod_drop rfl) ?_
  refine aw_iload_n (i := 1) C (dec D_Mod_drop rfl) rfl rfl ?_
  refine aw_iconst (v := 0) C (dec D_Mod_drop rfl) (by decide) ?_
  refine as_M8 C Fw f bz0 (dec D_Mod_drop rfl) (ix_of hf) ?_
  refine aw_ret_v C r (dec D_Mod_drop rfl) (by decide) (by decide) ?_
  first | exact absurd trivial ‹¬True› | exact False.elim ‹False› | (refine ⟨?_, ?_⟩ <;> first | rfl | (simp [mI_I, mL_I, mA_I, mJ_I, mI_L, mL_L, mA_L, mJ_L, mI_A, mL_A, mA_A, mJ_A, mI_J, mL_J, mA_J, mJ_J, cI_I, cL_I, cA_I, cJ_I, cR_I, cN_I, cI_L, cL_L, cA_L, cJ_L, cR_L, cN_L, cI_A, cL_A, cA_A, cJ_A, cR_A, cN_A, cI_J, cL_J, cA_J, cJ_J, cR_J, cN_J, cI_R, cL_R, cA_R, cJ_R, cR_R, cN_R, cI_N, cL_N, cA_N, cJ_N, cR_N, cN_N, ↓reduceIte, Nat.reduceEqDiff, upd_at, updL_at, ]; done) | (simp [mI_I, mL_I, mA_I, mJ_I, mI_L, mL_L, mA_L, mJ_L, mI_A, mL_A, mA_A, mJ_A, mI_J, mL_J, mA_J, mJ_J, cI_I, cL_I, cA_I, cJ_I, cR_I, cN_I, cI_L, cL_L, cA_L, cJ_L, cR_L, cN_L, cI_A, cL_A, cA_A, cJ_A, cR_A, cN_A, cI_J, cL_J, cA_J, cJ_J, cR_J, cN_J, cI_R, cL_R, cA_R, cJ_R, cR_R, cN_R, cI_N, cL_N, cA_N, cJ_N, cR_N, cN_N, ↓reduceIte, Nat.reduceEqDiff, upd_at, updL_at, ]; rfl))
theorem c_Mod_pages (l : Launch) (G : GG) (a : AD) (c : CC) (m : MM) (o : OO) (f : Nat) (hf : f < 8) : CT l G y_Mod_pages (.code y_Mod_pages b_Mod_pages 2 (some .int)) 0 0 0 Fno (wld G a c m o) [.ref (a 30 0), .int (nI f)] (fun r w2 => r = .inl (some (.int ((mA m 4 f + 7) / 8))) ∧ w2 = wld G a c m o) := by
  refine CT.of (by decide) (Nat.le_of_ble_eq_true rfl) rfl ?_
  intro E hl hG hF C r hw hex hnm
  subst hl; subst hG
  refine aw_aload_n (i := 0) C (dec D_Mod_pages rfl) rfl rfl ?_
  refine gf_Mod_29 C (dec D_Mod_pages rfl) ?_
  refine aw_iload_n (i := 1) C (dec D_Mod_pages rfl) rfl rfl ?_
  refine al_M4 C f (dec D_Mod_pages rfl) (ix_of hf) ?_
  refine aw_bipush (v := 7) C (dec D_Mod_pages rfl) (by decide) ?_
  refine aw_iadd C (dec D_Mod_pages rfl) ?_
  refine aw_bipush (v := 8) C (dec D_Mod_pages rfl) (by decide) ?_
  refine aw_idiv C (dec D_Mod_pages rfl) (by decide) ?_
  refine aw_ret_i C r (dec D_Mod_pages rfl) rfl (by decide) (by decide) ?_
  first | exact absurd trivial ‹¬True› | exact False.elim ‹False› | (refine ⟨?_, ?_⟩ <;> first | rfl | (simp [mI_I, mL_I, mA_I, mJ_I, mI_L, mL_L, mA_L, mJ_L, mI_A, mL_A, mA_A, mJ_A, mI_J, mL_J, mA_J, mJ_J, cI_I, cL_I, cA_I, cJ_I, cR_I, cN_I, cI_L, cL_L, cA_L, cJ_L, cR_L, cN_L, cI_A, cL_A, cA_A, cJ_A, cR_A, cN_A, cI_J, cL_J, cA_J, cJ_J, cR_J, cN_J, cI_R, cL_R, cA_R, cJ_R, cR_R, cN_R, cI_N, cL_N, cA_N, cJ_N, cR_N, cN_N, ↓reduceIte, Nat.reduceEqDiff, upd_at, updL_at, ]; done) | (simp [mI_I, mL_I, mA_I, mJ_I, mI_L, mL_L, mA_L, mJ_L, mI_A, mL_A, mA_A, mJ_A, mI_J, mL_J, mA_J, mJ_J, cI_I, cL_I, cA_I, cJ_I, cR_I, cN_I, cI_L, cL_L, cA_L, cJ_L, cR_L, cN_L, cI_A, cL_A, cA_A, cJ_A, cR_A, cN_A, cI_J, cL_J, cA_J, cJ_J, cR_J, cN_J, cI_R, cL_R, cA_R, cJ_R, cR_R, cN_R, cI_N, cL_N, cA_N, cJ_N, cR_N, cN_N, ↓reduceIte, Nat.reduceEqDiff, upd_at, updL_at, ]; rfl))
