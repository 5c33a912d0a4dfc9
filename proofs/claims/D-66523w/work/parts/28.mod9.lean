/-! the model: what forget leaves; format; printed by tools/m28.py -/
theorem mDropN_I (m : MM) : ∀ t, mI (mDropN m t) = mI m
  | 0 => rfl
  | t + 1 => by rw [mDropN, mDrop]; exact mDropN_I m t
theorem mDropN_A (m : MM) {j : Nat} (h3 : j ≠ 3) (h4 : j ≠ 4) (h6 : j ≠ 6) (h8 : j ≠ 8) : ∀ t, mA (mDropN m t) j = mA m j
  | 0 => rfl
  | t + 1 => by rw [mDropN, mDrop, mS, mA_A, if_neg h8, mS, mA_A, if_neg h6, mS, mA_A, if_neg h4, mS, mA_A, if_neg h3]; exact mDropN_A m h3 h4 h6 h8 t
theorem mDropN_J (m : MM) : ∀ t, mJ (mDropN m t) = mJ m
  | 0 => rfl
  | t + 1 => by rw [mDropN, mDrop]; exact mDropN_J m t
theorem mDropN_L (m : MM) : ∀ t, mL (mDropN m t) = mL m
  | 0 => rfl
  | t + 1 => by rw [mDropN, mDrop]; exact mDropN_L m t
theorem mDropN_at (m : MM) {f : Nat} : ∀ t, f < t → mA (mDropN m t) 3 f = 0 ∧ mA (mDropN m t) 4 f = 0 ∧ mA (mDropN m t) 6 f = -1 ∧ mA (mDropN m t) 8 f = 0
  | 0, h => absurd h (Nat.not_lt_zero _)
  | t + 1, h => by
    by_cases e : f = t
    · subst e
      rw [mDropN, mDrop]
      refine ⟨?_, ?_, ?_, ?_⟩ <;> simp [mS, mA_A, upd_at]
    · have ih := mDropN_at m (f := f) t (by omega)
      rw [mDropN, mDrop]
      refine ⟨?_, ?_, ?_, ?_⟩ <;> simp [mS, mA_A, upd_at, e, ih]
theorem mHeld0_I (m : MM) : ∀ t, mI (mHeld0 m t) = mI m
  | 0 => rfl
  | t + 1 => by rw [mHeld0, mS, mI_A]; exact mHeld0_I m t
theorem mHeld0_J (m : MM) : ∀ t, mJ (mHeld0 m t) = mJ m
  | 0 => rfl
  | t + 1 => by rw [mHeld0, mS, mJ_A]; exact mHeld0_J m t
theorem mHeld0_L (m : MM) : ∀ t, mL (mHeld0 m t) = mL m
  | 0 => rfl
  | t + 1 => by rw [mHeld0, mS, mL_A]; exact mHeld0_L m t
theorem mHeld0_A (m : MM) {j : Nat} (h9 : j ≠ 9) : ∀ t, mA (mHeld0 m t) j = mA m j
  | 0 => rfl
  | t + 1 => by rw [mHeld0, mS, mA_A, if_neg h9]; exact mHeld0_A m h9 t
theorem mHeld0_at (m : MM) {f : Nat} : ∀ t, f < t → mA (mHeld0 m t) 9 f = 0
  | 0, h => absurd h (Nat.not_lt_zero _)
  | t + 1, h => by
    rw [mHeld0, mS, mA_A, if_pos rfl, upd_at]
    split
    · rfl
    · exact mHeld0_at m t (by omega)
theorem mForget_at (m : MM) {f : Nat} (hf : f < 8) : mA (mForget m) 3 f = 0 ∧ mA (mForget m) 4 f = 0 ∧ mA (mForget m) 6 f = -1 ∧ mA (mForget m) 8 f = 0 := by
  have h := mDropN_at (smI m 5 0) (f := f) 8 hf
  have e : ∀ j, j ≠ 9 → mA (mForget m) j = mA (mDropN (smI m 5 0) 8) j := fun j hj => by rw [mForget, mA_I, mA_I, mHeld0_A _ hj]
  rw [e 3 (by decide), e 4 (by decide), e 6 (by decide), e 8 (by decide)]; exact h
theorem mForget_9 (m : MM) {k : Nat} (hk : k < 101) : mA (mForget m) 9 k = 0 := by rw [mForget, mA_I, mA_I]; exact mHeld0_at _ _ hk
theorem mForget_A (m : MM) {j : Nat} (h3 : j ≠ 3) (h4 : j ≠ 4) (h6 : j ≠ 6) (h8 : j ≠ 8) (h9 : j ≠ 9) : mA (mForget m) j = mA m j := by
  rw [mForget, mA_I, mA_I, mHeld0_A _ h9, mDropN_A _ h3 h4 h6 h8]; rfl
theorem mForget_J (m : MM) : mJ (mForget m) = mJ m := by rw [mForget, mJ_I, mJ_I, mHeld0_J, mDropN_J]; rfl
theorem mForget_L (m : MM) : mL (mForget m) = mL m := by rw [mForget, mL_I, mL_I, mHeld0_L, mDropN_L]; rfl
theorem mForget_I (m : MM) (k : Nat) : mI (mForget m) k = if k = 9 then 0 else if k = 8 then 0 else if k = 5 then 0 else mI m k := by
  rw [mForget, mI_I, mI_I, mHeld0_I, mDropN_I, mI_I]
def B01 (x : Int32) : Prop := x = 0 ∨ x = 1
theorem mGo1_on {m : MM} (h : B01 (mI m 4)) : B01 (mI (mGo1 m) 4) := by
  unfold mGo1; split
  · exact .inl rfl
  · exact h
theorem mGoes_on {m : MM} {x : Int32} (h : B01 (mI m 4)) : B01 (mI (mGoes m x) 4) := by
  unfold mGoes; split
  · exact mGo1_on h
  · exact h
theorem mWrite_on {m : MM} {p : Nat} {v : Int64} (h : B01 (mI m 4)) : B01 (mI (mWrite m p v) 4) := by
  unfold mWrite; split
  · exact h
  · split
    · exact mGoes_on h
    · exact mGoes_on (m := m) h
theorem mSave_on {m : MM} {f : Nat} (h : B01 (mI m 4)) : B01 (mI (mSave m f) 4) := by
  unfold mSave; split
  · exact h
  · rw [mS, mI_A]; exact mWrite_on h
theorem mSaveN_on {m : MM} (h : B01 (mI m 4)) : ∀ f, B01 (mI (mSaveN m f) 4)
  | 0 => h
  | f + 1 => mSave_on (mSaveN_on h f)
theorem mWrN_on {m : MM} {ot : Nat} (h : B01 (mI m 4)) : ∀ t, B01 (mI (mWrN m ot t) 4)
  | 0 => h
  | t + 1 => mWrite_on (mWrN_on h t)
theorem mHoldN_I (m : MM) (L : Nat → Nat) : ∀ t, mI (mHoldN m L t) = mI m
  | 0 => rfl
  | t + 1 => by rw [mHoldN, mS, mI_A]; exact mHoldN_I m L t
theorem mSaveAll_on {m : MM} {L : Nat → Nat} {ch : Nat → Nat → Nat} {cu tn : Nat} (h : B01 (mI m 4)) : B01 (mI (mSaveAll m L ch cu tn) 4) := by
  rw [mSaveAll, mHoldN_I, mI_I, if_neg (by decide), mI_I, if_neg (by decide)]
  exact mWrN_on (by rw [mMake_I]; exact mSaveN_on h 8) 20
def mGood (m : MM) : Nat → Int32
  | 0 => 0
  | t + 1 => if mA m 1 t = 0 then mGood m t + 1 else mGood m t
def mData0 (m : MM) : Nat → MM
  | 0 => m
  | t + 1 => mSJ (mData0 m t) 2 t 0
theorem mData0_I (m : MM) : ∀ t, mI (mData0 m t) = mI m
  | 0 => rfl
  | t + 1 => by rw [mData0, mSJ, mI_J]; exact mData0_I m t
def mFmt1 (m : MM) : MM := mForget (mData0 (smI (smL (smI m 0 (mOnC m)) 0 (mL m 0 + 202)) 1 1) 101)
def mFmt2 (m : MM) : MM := smI (smI (smI (mFmt1 m) 6 1) 7 255) 5 1
def mFmt3 (m : MM) : MM := mSaveAll (mFmt2 m) (fun _ => 0) (fun _ _ => 0) 1 255
def mFormat (m : MM) : MM := if 0 < mOnC m then smI m 0 (mOnC m) else if 64 ≤ mGood m 69 then smI (mFmt3 m) 0 (mOnC (mFmt3 m)) else smI m 0 (mOnC m)
def mFormatR (m : MM) : Int32 := if 0 < mOnC m then 0 else if 64 ≤ mGood m 69 then mI (mFmt3 m) 4 else 0
theorem mFmt2_L (m : MM) : MLn (mFmt2 m) (fun _ => 0) := fun f hf => ⟨(mForget_at _ hf).2.1, Nat.zero_le _⟩
theorem mFmt2_C (m : MM) : MCh (mFmt2 m) (fun _ => 0) (fun _ _ => 0) := fun _ _ _ hi => absurd hi (by show ¬ _ < pg 0; unfold pg; omega)
theorem mFmt2_W (m : MM) : MWin (mFmt2 m) := fun f hf h => absurd (mForget_at _ hf).2.2.2 h
theorem mFmt1_I (m : MM) : mI (mFmt1 m) 4 = mI m 4 := by
  rw [mFmt1, mForget_I, if_neg (by decide), if_neg (by decide), if_neg (by decide), mData0_I, mI_I, if_neg (by decide), mI_L, mI_I, if_neg (by decide)]
theorem mFmt3_on {m : MM} (h : B01 (mI m 4)) : B01 (mI (mFmt3 m) 4) := mSaveAll_on (by rw [mFmt2, mI_I, if_neg (by decide), mI_I, if_neg (by decide), mI_I, if_neg (by decide), mFmt1_I]; exact h)
theorem c_Mod_format (l : Launch) (G : GG) (a : AD) (c : CC) (m : MM) (o : OO)  (hon : B01 (mI m 4)) : CT l G y_Mod_format (.code y_Mod_format b_Mod_format 3 (some .boolean)) 6 0 0 (Fyes G) (wld G a c m o) [.ref (a 30 0)] (fun r w2 => r = .inl (some (.int (mFormatR m))) ∧ w2 = wld G a c (mFormat m) o) := by
  refine CT.of (by decide) (Nat.le_of_ble_eq_true rfl) rfl ?_
  intro E hl hG hF C r hw hex hnm
  subst hl; subst hG
  have Fw : Cw E := fun a h => by rw [hF]; exact h
  have k127 : ¬ 0 < mOnC m → 64 ≤ mGood m 69 → AW E false 0 0 (wld (eG E) a c (mFmt3 m) o) 127 [(0, .ref (a 30 0))] [] := by
    intro h53 h59
    have hb := mFmt3_on hon
    generalize e3 : mFmt3 m = m3 at hb ⊢
    refine aw_aload_n (i := 0) C (dec D_Mod_format rfl) rfl rfl ?_
    refine aw_aload_n (i := 0) C (dec D_Mod_format rfl) rfl rfl ?_
    refine gf_Mod_21 C (dec D_Mod_format rfl) ?_
    refine aw_if_eq (tgt := 139) C (dec D_Mod_format rfl) (by decide) (fun h132 => ?_) (fun h132 => ?_)
    · try simp only [mI_I, mL_I, mA_I, mJ_I, mI_L, mL_L, mA_L, mJ_L, mI_A, mL_A, mA_A, mJ_A, mI_J, mL_J, mA_J, mJ_J, cI_I, cL_I, cA_I, cJ_I, cR_I, cN_I, cI_L, cL_L, cA_L, cJ_L, cR_L, cN_L, cI_A, cL_A, cA_A, cJ_A, cR_A, cN_A, cI_J, cL_J, cA_J, cJ_J, cR_J, cN_J, cI_R, cL_R, cA_R, cJ_R, cR_R, cN_R, cI_N, cL_N, cA_N, cJ_N, cR_N, cN_N, ↓reduceIte, Nat.reduceEqDiff, upd_at, updL_at] at h132
      refine aw_iconst (v := 1) C (dec D_Mod_format rfl) (by decide) ?_
      refine pf_Mod_71 C Fw (dec D_Mod_format rfl) ?_
      refine aw_aload_n (i := 0) C (dec D_Mod_format rfl) rfl rfl ?_
      refine gf_Mod_21 C (dec D_Mod_format rfl) ?_
      refine aw_ret_i C r (dec D_Mod_format rfl) (bz_n hb).1 (by decide) (by decide) ?_
      exact ⟨by rw [mFormatR, if_neg h53, if_pos h59, e3]; rfl, by rw [mFormat, if_neg h53, if_pos h59, e3, mOnC, if_pos h132]⟩
    · try simp only [mI_I, mL_I, mA_I, mJ_I, mI_L, mL_L, mA_L, mJ_L, mI_A, mL_A, mA_A, mJ_A, mI_J, mL_J, mA_J, mJ_J, cI_I, cL_I, cA_I, cJ_I, cR_I, cN_I, cI_L, cL_L, cA_L, cJ_L, cR_L, cN_L, cI_A, cL_A, cA_A, cJ_A, cR_A, cN_A, cI_J, cL_J, cA_J, cJ_J, cR_J, cN_J, cI_R, cL_R, cA_R, cJ_R, cR_R, cN_R, cI_N, cL_N, cA_N, cJ_N, cR_N, cN_N, ↓reduceIte, Nat.reduceEqDiff, upd_at, updL_at] at h132
      refine aw_iconst (v := 0) C (dec D_Mod_format rfl) (by decide) ?_
      refine aw_goto (tgt := 140) C (dec D_Mod_format rfl) (by decide) ?_
      refine pf_Mod_71 C Fw (dec D_Mod_format rfl) ?_
      refine aw_aload_n (i := 0) C (dec D_Mod_format rfl) rfl rfl ?_
      refine gf_Mod_21 C (dec D_Mod_format rfl) ?_
      refine aw_ret_i C r (dec D_Mod_format rfl) (bz_n hb).1 (by decide) (by decide) ?_
      exact ⟨by rw [mFormatR, if_neg h53, if_pos h59, e3]; rfl, by rw [mFormat, if_neg h53, if_pos h59, e3, mOnC, if_neg h132]⟩
  have lp2 : ∀ y : Int32, ¬ 0 < mOnC m → 64 ≤ mGood m 69 → ∀ (n t : Nat) , 101 - t < n → t ≤ 101 → AW E false 0 0 (wld (eG E) a c (mData0 (smI (smL (smI m 0 (mOnC m)) 0 (mL m 0 + 202)) 1 1) t) o) 83 [(0, .ref (a 30 0)), (1, .int y), (2, .int (nI t))] [] := by
    intro y h53 h59 n
    induction n with
    | zero => intro t  h1 h2; omega
    | succ n ih =>
      intro t  h1t h2t
      refine aw_iload_n (i := 2) C (dec D_Mod_format rfl) rfl rfl ?_
      refine aw_bipush (v := 101) C (dec D_Mod_format rfl) (by decide) ?_
      refine aw_icmp_ge (tgt := 102) C (dec D_Mod_format rfl) (by decide) (fun hb => ?_) (fun hb => ?_)
      · try simp only [mI_I, mL_I, mA_I, mJ_I, mI_L, mL_L, mA_L, mJ_L, mI_A, mL_A, mA_A, mJ_A, mI_J, mL_J, mA_J, mJ_J, cI_I, cL_I, cA_I, cJ_I, cR_I, cN_I, cI_L, cL_L, cA_L, cJ_L, cR_L, cN_L, cI_A, cL_A, cA_A, cJ_A, cR_A, cN_A, cI_J, cL_J, cA_J, cJ_J, cR_J, cN_J, cI_R, cL_R, cA_R, cJ_R, cR_R, cN_R, cI_N, cL_N, cA_N, cJ_N, cR_N, cN_N, ↓reduceIte, Nat.reduceEqDiff, upd_at, updL_at] at hb
        have e9 : t = 101 := by have := ix_ge (N := 101) hb; omega
        subst e9
        refine AW.ls [(0, .ref (a 30 0))] rfl ?_
        refine aw_aload_n (i := 0) C (dec D_Mod_format rfl) rfl rfl ?_
        refine aw_cv C ci_Mod_68 [] (c_Mod_forget _ _ _ _ _ _) (dec D_Mod_format rfl) rcM rfl (fpW Fw) (Nat.le_of_ble_eq_true rfl) (by decide) ⟨by decide, by decide⟩ (fun v w2 hp => ?_) (fun _ _ h => by cases h.1)
        obtain ⟨hv, rfl⟩ := hp
        cases hv
        refine aw_aload_n (i := 0) C (dec D_Mod_format rfl) rfl rfl ?_
        refine aw_iconst (v := 1) C (dec D_Mod_format rfl) (by decide) ?_
        refine pf_Mod_110 C Fw (dec D_Mod_format rfl) ?_
        refine aw_aload_n (i := 0) C (dec D_Mod_format rfl) rfl rfl ?_
        refine aw_sipush (v := 255) C (dec D_Mod_format rfl) (by decide) ?_
        refine pf_Mod_113 C Fw (dec D_Mod_format rfl) ?_
        refine aw_aload_n (i := 0) C (dec D_Mod_format rfl) rfl rfl ?_
        refine aw_iconst (v := 1) C (dec D_Mod_format rfl) (by decide) ?_
        refine pf_Mod_77 C Fw bz1 (dec D_Mod_format rfl) ?_
        refine aw_aload_n (i := 0) C (dec D_Mod_format rfl) rfl rfl ?_
        refine aw_cv C ci_Mod_116 [] (c_Mod_saveAll _ _ _ _ _ _ (fun _ => 0) (fun _ _ => 0) 1 255 (mFmt2_L m) (mFmt2_C m) (mFmt2_W m) ⟨rfl, by omega⟩ ⟨rfl, by omega⟩) (dec D_Mod_format rfl) rcM rfl (fpW Fw) (Nat.le_of_ble_eq_true rfl) (by decide) ⟨by decide, by decide⟩ (fun v w2 hp => ?_) (fun _ _ h => by cases h.1)
        obtain ⟨hv, rfl⟩ := hp
        cases hv
        exact k127 h53 h59
      · try simp only [mI_I, mL_I, mA_I, mJ_I, mI_L, mL_L, mA_L, mJ_L, mI_A, mL_A, mA_A, mJ_A, mI_J, mL_J, mA_J, mJ_J, cI_I, cL_I, cA_I, cJ_I, cR_I, cN_I, cI_L, cL_L, cA_L, cJ_L, cR_L, cN_L, cI_A, cL_A, cA_A, cJ_A, cR_A, cN_A, cI_J, cL_J, cA_J, cJ_J, cR_J, cN_J, cI_R, cL_R, cA_R, cJ_R, cR_R, cN_R, cI_N, cL_N, cA_N, cJ_N, cR_N, cN_N, ↓reduceIte, Nat.reduceEqDiff, upd_at, updL_at] at hb
        have htt : t < 101 := ix_lt (N := 101) hb
        refine aw_aload_n (i := 0) C (dec D_Mod_format rfl) rfl rfl ?_
        refine gf_Mod_13 C (dec D_Mod_format rfl) ?_
        refine aw_iload_n (i := 2) C (dec D_Mod_format rfl) rfl rfl ?_
        refine aw_lconst (v := 0) C (dec D_Mod_format rfl) (by decide) ?_
        refine as_M2 C Fw t (dec D_Mod_format rfl) (ix_of htt) ?_
        refine aw_iinc C (dec D_Mod_format rfl) rfl (nI_inc t) (by decide) ?_
        refine aw_goto (tgt := 83) C (dec D_Mod_format rfl) (by decide) ?_
        exact ih (t + 1) (by omega) (by omega)
  have lp1 : ∀ (n t : Nat) (y : Int32), 69 - t < n → t ≤ 69 → y = mGood m t → AW E false 0 0 (wld (eG E) a c (smI m 0 (mOnC m)) o) 20 [(0, .ref (a 30 0)), (1, .int y), (2, .int (nI t))] [] := by
    intro n
    induction n with
    | zero => intro t y h1 h2 hx; omega
    | succ n ih =>
      intro t y h1t h2t hx
      refine aw_iload_n (i := 2) C (dec D_Mod_format rfl) rfl rfl ?_
      refine aw_bipush (v := 69) C (dec D_Mod_format rfl) (by decide) ?_
      refine aw_icmp_ge (tgt := 49) C (dec D_Mod_format rfl) (by decide) (fun hb => ?_) (fun hb => ?_)
      · try simp only [mI_I, mL_I, mA_I, mJ_I, mI_L, mL_L, mA_L, mJ_L, mI_A, mL_A, mA_A, mJ_A, mI_J, mL_J, mA_J, mJ_J, cI_I, cL_I, cA_I, cJ_I, cR_I, cN_I, cI_L, cL_L, cA_L, cJ_L, cR_L, cN_L, cI_A, cL_A, cA_A, cJ_A, cR_A, cN_A, cI_J, cL_J, cA_J, cJ_J, cR_J, cN_J, cI_R, cL_R, cA_R, cJ_R, cR_R, cN_R, cI_N, cL_N, cA_N, cJ_N, cR_N, cN_N, ↓reduceIte, Nat.reduceEqDiff, upd_at, updL_at] at hb
        have e9 : t = 69 := by have := ix_ge (N := 69) hb; omega
        subst e9
        refine aw_aload_n (i := 0) C (dec D_Mod_format rfl) rfl rfl ?_
        refine gf_Mod_71 C (dec D_Mod_format rfl) ?_
        refine aw_if_gt (tgt := 62) C (dec D_Mod_format rfl) (by decide) (fun h53 => ?_) (fun h53 => ?_)
        · try simp only [mI_I, mL_I, mA_I, mJ_I, mI_L, mL_L, mA_L, mJ_L, mI_A, mL_A, mA_A, mJ_A, mI_J, mL_J, mA_J, mJ_J, cI_I, cL_I, cA_I, cJ_I, cR_I, cN_I, cI_L, cL_L, cA_L, cJ_L, cR_L, cN_L, cI_A, cL_A, cA_A, cJ_A, cR_A, cN_A, cI_J, cL_J, cA_J, cJ_J, cR_J, cN_J, cI_R, cL_R, cA_R, cJ_R, cR_R, cN_R, cI_N, cL_N, cA_N, cJ_N, cR_N, cN_N, ↓reduceIte, Nat.reduceEqDiff, upd_at, updL_at] at h53
          refine aw_iconst (v := 0) C (dec D_Mod_format rfl) (by decide) ?_
          refine aw_ret_i C r (dec D_Mod_format rfl) rfl (by decide) (by decide) ?_
          exact ⟨by rw [mFormatR, if_pos h53], by rw [mFormat, if_pos h53]⟩
        · try simp only [mI_I, mL_I, mA_I, mJ_I, mI_L, mL_L, mA_L, mJ_L, mI_A, mL_A, mA_A, mJ_A, mI_J, mL_J, mA_J, mJ_J, cI_I, cL_I, cA_I, cJ_I, cR_I, cN_I, cI_L, cL_L, cA_L, cJ_L, cR_L, cN_L, cI_A, cL_A, cA_A, cJ_A, cR_A, cN_A, cI_J, cL_J, cA_J, cJ_J, cR_J, cN_J, cI_R, cL_R, cA_R, cJ_R, cR_R, cN_R, cI_N, cL_N, cA_N, cJ_N, cR_N, cN_N, ↓reduceIte, Nat.reduceEqDiff, upd_at, updL_at] at h53
          refine aw_iload_n (i := 1) C (dec D_Mod_format rfl) rfl rfl ?_
          refine aw_bipush (v := 64) C (dec D_Mod_format rfl) (by decide) ?_
          refine aw_icmp_ge (tgt := 64) C (dec D_Mod_format rfl) (by decide) (fun h59 => ?_) (fun h59 => ?_)
          · try simp only [mI_I, mL_I, mA_I, mJ_I, mI_L, mL_L, mA_L, mJ_L, mI_A, mL_A, mA_A, mJ_A, mI_J, mL_J, mA_J, mJ_J, cI_I, cL_I, cA_I, cJ_I, cR_I, cN_I, cI_L, cL_L, cA_L, cJ_L, cR_L, cN_L, cI_A, cL_A, cA_A, cJ_A, cR_A, cN_A, cI_J, cL_J, cA_J, cJ_J, cR_J, cN_J, cI_R, cL_R, cA_R, cJ_R, cR_R, cN_R, cI_N, cL_N, cA_N, cJ_N, cR_N, cN_N, ↓reduceIte, Nat.reduceEqDiff, upd_at, updL_at] at h59
            rw [hx] at h59
            refine aw_aload_n (i := 0) C (dec D_Mod_format rfl) rfl rfl ?_
            refine aw_aload_n (i := 0) C (dec D_Mod_format rfl) rfl rfl ?_
            refine gf_Mod_80 C (dec D_Mod_format rfl) ?_
            refine aw_ldc2 (v := 202) C (dec D_Mod_format rfl) (List.mem_of_getElem? (i := 931) (by decide +kernel)) ?_
            refine aw_ladd C (dec D_Mod_format rfl) ?_
            refine pf_Mod_80 C Fw (dec D_Mod_format rfl) ?_
            refine aw_aload_n (i := 0) C (dec D_Mod_format rfl) rfl rfl ?_
            refine aw_iconst (v := 1) C (dec D_Mod_format rfl) (by decide) ?_
            refine pf_Mod_74 C Fw bz1 (dec D_Mod_format rfl) ?_
            refine aw_iconst (v := 0) C (dec D_Mod_format rfl) (by decide) ?_
            refine aw_istore_n (i := 2) C (dec D_Mod_format rfl) rfl (by decide) ?_
            exact lp2 _ h53 h59 102 0 (by omega) (by omega)
          · try simp only [mI_I, mL_I, mA_I, mJ_I, mI_L, mL_L, mA_L, mJ_L, mI_A, mL_A, mA_A, mJ_A, mI_J, mL_J, mA_J, mJ_J, cI_I, cL_I, cA_I, cJ_I, cR_I, cN_I, cI_L, cL_L, cA_L, cJ_L, cR_L, cN_L, cI_A, cL_A, cA_A, cJ_A, cR_A, cN_A, cI_J, cL_J, cA_J, cJ_J, cR_J, cN_J, cI_R, cL_R, cA_R, cJ_R, cR_R, cN_R, cI_N, cL_N, cA_N, cJ_N, cR_N, cN_N, ↓reduceIte, Nat.reduceEqDiff, upd_at, updL_at] at h59
            rw [hx] at h59
            refine aw_iconst (v := 0) C (dec D_Mod_format rfl) (by decide) ?_
            refine aw_ret_i C r (dec D_Mod_format rfl) rfl (by decide) (by decide) ?_
            exact ⟨by rw [mFormatR, if_neg h53, if_neg h59], by rw [mFormat, if_neg h53, if_neg h59]⟩
      · try simp only [mI_I, mL_I, mA_I, mJ_I, mI_L, mL_L, mA_L, mJ_L, mI_A, mL_A, mA_A, mJ_A, mI_J, mL_J, mA_J, mJ_J, cI_I, cL_I, cA_I, cJ_I, cR_I, cN_I, cI_L, cL_L, cA_L, cJ_L, cR_L, cN_L, cI_A, cL_A, cA_A, cJ_A, cR_A, cN_A, cI_J, cL_J, cA_J, cJ_J, cR_J, cN_J, cI_R, cL_R, cA_R, cJ_R, cR_R, cN_R, cI_N, cL_N, cA_N, cJ_N, cR_N, cN_N, ↓reduceIte, Nat.reduceEqDiff, upd_at, updL_at] at hb
        have htt : t < 69 := ix_lt (N := 69) hb
        refine aw_aload_n (i := 0) C (dec D_Mod_format rfl) rfl rfl ?_
        refine gf_Mod_7 C (dec D_Mod_format rfl) ?_
        refine aw_iload_n (i := 2) C (dec D_Mod_format rfl) rfl rfl ?_
        refine al_M1 C t (dec D_Mod_format rfl) (ix_of htt) ?_
        refine aw_if_eq (tgt := 39) C (dec D_Mod_format rfl) (by decide) (fun h32 => ?_) (fun h32 => ?_)
        · try simp only [mI_I, mL_I, mA_I, mJ_I, mI_L, mL_L, mA_L, mJ_L, mI_A, mL_A, mA_A, mJ_A, mI_J, mL_J, mA_J, mJ_J, cI_I, cL_I, cA_I, cJ_I, cR_I, cN_I, cI_L, cL_L, cA_L, cJ_L, cR_L, cN_L, cI_A, cL_A, cA_A, cJ_A, cR_A, cN_A, cI_J, cL_J, cA_J, cJ_J, cR_J, cN_J, cI_R, cL_R, cA_R, cJ_R, cR_R, cN_R, cI_N, cL_N, cA_N, cJ_N, cR_N, cN_N, ↓reduceIte, Nat.reduceEqDiff, upd_at, updL_at] at h32
          refine aw_iload_n (i := 1) C (dec D_Mod_format rfl) rfl rfl ?_
          refine aw_iconst (v := 1) C (dec D_Mod_format rfl) (by decide) ?_
          refine aw_iadd C (dec D_Mod_format rfl) ?_
          refine aw_istore_n (i := 1) C (dec D_Mod_format rfl) rfl (by decide) ?_
          refine aw_iinc C (dec D_Mod_format rfl) rfl (nI_inc t) (by decide) ?_
          refine aw_goto (tgt := 20) C (dec D_Mod_format rfl) (by decide) ?_
          exact ih (t + 1) _ (by omega) (by omega) (by rw [mGood, if_pos h32, hx])
        · try simp only [mI_I, mL_I, mA_I, mJ_I, mI_L, mL_L, mA_L, mJ_L, mI_A, mL_A, mA_A, mJ_A, mI_J, mL_J, mA_J, mJ_J, cI_I, cL_I, cA_I, cJ_I, cR_I, cN_I, cI_L, cL_L, cA_L, cJ_L, cR_L, cN_L, cI_A, cL_A, cA_A, cJ_A, cR_A, cN_A, cI_J, cL_J, cA_J, cJ_J, cR_J, cN_J, cI_R, cL_R, cA_R, cJ_R, cR_R, cN_R, cI_N, cL_N, cA_N, cJ_N, cR_N, cN_N, ↓reduceIte, Nat.reduceEqDiff, upd_at, updL_at] at h32
          refine aw_iload_n (i := 1) C (dec D_Mod_format rfl) rfl rfl ?_
          refine aw_goto (tgt := 42) C (dec D_Mod_format rfl) (by decide) ?_
          refine aw_istore_n (i := 1) C (dec D_Mod_format rfl) rfl (by decide) ?_
          refine aw_iinc C (dec D_Mod_format rfl) rfl (nI_inc t) (by decide) ?_
          refine aw_goto (tgt := 20) C (dec D_Mod_format rfl) (by decide) ?_
          exact ih (t + 1) _ (by omega) (by omega) (by rw [mGood, if_neg h32, hx])
  have k13 : ∀ v, v = mOnC m → AW E false 0 0 (wld (eG E) a c m o) 13 [(0, .ref (a 30 0))] [.int v, .ref (a 30 0)] := by
    intro v hv; subst hv
    refine pf_Mod_71 C Fw (dec D_Mod_format rfl) ?_
    refine aw_iconst (v := 0) C (dec D_Mod_format rfl) (by decide) ?_
    refine aw_istore_n (i := 1) C (dec D_Mod_format rfl) rfl (by decide) ?_
    refine aw_iconst (v := 0) C (dec D_Mod_format rfl) (by decide) ?_
    refine aw_istore_n (i := 2) C (dec D_Mod_format rfl) rfl (by decide) ?_
    exact lp1 70 0 0 (by omega) (by omega) rfl
  refine aw_aload_n (i := 0) C (dec D_Mod_format rfl) rfl rfl ?_
  refine aw_aload_n (i := 0) C (dec D_Mod_format rfl) rfl rfl ?_
  refine gf_Mod_21 C (dec D_Mod_format rfl) ?_
  refine aw_if_eq (tgt := 12) C (dec D_Mod_format rfl) (by decide) (fun h5 => ?_) (fun h5 => ?_)
  · try simp only [mI_I, mL_I, mA_I, mJ_I, mI_L, mL_L, mA_L, mJ_L, mI_A, mL_A, mA_A, mJ_A, mI_J, mL_J, mA_J, mJ_J, cI_I, cL_I, cA_I, cJ_I, cR_I, cN_I, cI_L, cL_L, cA_L, cJ_L, cR_L, cN_L, cI_A, cL_A, cA_A, cJ_A, cR_A, cN_A, cI_J, cL_J, cA_J, cJ_J, cR_J, cN_J, cI_R, cL_R, cA_R, cJ_R, cR_R, cN_R, cI_N, cL_N, cA_N, cJ_N, cR_N, cN_N, ↓reduceIte, Nat.reduceEqDiff, upd_at, updL_at] at h5
    refine aw_iconst (v := 1) C (dec D_Mod_format rfl) (by decide) ?_
    exact AW.impure (k13 _ (by simp [mOnC, h5]))
  · try simp only [mI_I, mL_I, mA_I, mJ_I, mI_L, mL_L, mA_L, mJ_L, mI_A, mL_A, mA_A, mJ_A, mI_J, mL_J, mA_J, mJ_J, cI_I, cL_I, cA_I, cJ_I, cR_I, cN_I, cI_L, cL_L, cA_L, cJ_L, cR_L, cN_L, cI_A, cL_A, cA_A, cJ_A, cR_A, cN_A, cI_J, cL_J, cA_J, cJ_J, cR_J, cN_J, cI_R, cL_R, cA_R, cJ_R, cR_R, cN_R, cI_N, cL_N, cA_N, cJ_N, cR_N, cN_N, ↓reduceIte, Nat.reduceEqDiff, upd_at, updL_at] at h5
    refine aw_iconst (v := 0) C (dec D_Mod_format rfl) (by decide) ?_
    refine aw_goto (tgt := 13) C (dec D_Mod_format rfl) (by decide) ?_
    exact AW.impure (k13 _ (by simp [mOnC, h5]))
