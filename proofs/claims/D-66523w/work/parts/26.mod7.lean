/-! the model: the other calls; printed by tools/m26.py -/
theorem lt_pg {x y : Int32} {n : Nat} (e : x = nI n) (h : n ≤ 488) (h1 : ¬ y < 0) (h2 : y < (x + 7) / 8) : ∃ i : Nat, i < pg n ∧ y = nI i := by
  rw [pgE e h] at h2
  have := pg_le h
  exact ix_rg (by omega) h1 (fun z => by rw [Int32.lt_iff_toInt_lt] at h2; rw [Int32.le_iff_toInt_le] at z; omega)
theorem lt_len {x y : Int32} {n : Nat} (e : x = nI n) (h : n ≤ 488) (h1 : ¬ y < 0) (h2 : y < x) : ∃ i : Nat, i < n ∧ y = nI i := by
  rw [e] at h2
  exact ix_rg (by omega) h1 (fun z => by rw [Int32.lt_iff_toInt_lt] at h2; rw [Int32.le_iff_toInt_le] at z; omega)
theorem le_len {x y : Int32} {n : Nat} (e : x = nI n) (h : n ≤ 488) (h1 : ¬ y < 0) (h2 : y ≤ x) : ∃ i : Nat, i ≤ n ∧ y = nI i := by
  rw [e] at h2
  obtain ⟨i, hi, z⟩ := ix_rg (x := y) (N := n + 1) (by omega) h1 (fun z => by rw [Int32.le_iff_toInt_le, nI_toInt (by omega)] at z h2; omega)
  exact ⟨i, by omega, z⟩
def mShN (m : MM) (f k : Nat) : Nat → MM
  | 0 => m
  | j + 1 => if mA (mShN m f k j) 6 f = mA (mShN m f k j) 5 (64 * f + (k + j)) then mS (mS (mShN m f k j) 6 f (-1)) 8 f 0 else mShN m f k j
theorem mShN_A (m : MM) (f k : Nat) {j : Nat} (h6 : j ≠ 6) (h8 : j ≠ 8) : ∀ t, mA (mShN m f k t) j = mA m j
  | 0 => rfl
  | t + 1 => by rw [mShN]; split
                · rw [mS, mA_A, if_neg h8, mS, mA_A, if_neg h6]; exact mShN_A m f k h6 h8 t
                · exact mShN_A m f k h6 h8 t
def mShorten (m : MM) (L : Nat → Nat) (f n : Nat) : MM := mS (mShN m f (pg n) (pg (L f) - pg n)) 4 f (nI n)
def mTruncC (m : MM) (x y : Int32) : Int32 := if mReady m = 0 then 1 else if mIsFile m x = 0 then 2 else if y < 0 then 2 else if y ≤ mA m 4 x.toNatClampNeg then 0 else 2
def mTrunc (m : MM) (L : Nat → Nat) (x y : Int32) : MM := if mTruncC m x y = 0 then mShorten (smI m 0 0) L x.toNatClampNeg y.toNatClampNeg else smI m 0 (mTruncC m x y)
def mTruncR (m : MM) (L : Nat → Nat) (x y : Int32) : Int32 := if mTruncC m x y = 0 then nI (pg (L x.toNatClampNeg) - pg y.toNatClampNeg) else 0
def mRemove (m : MM) (L : Nat → Nat) (x : Int32) : MM := if mGate m x = 0 then mDrop (mShorten (smI m 0 0) L x.toNatClampNeg 0) x.toNatClampNeg else smI m 0 (mGate m x)
def mRemoveR (m : MM) (L : Nat → Nat) (x : Int32) : Int32 := if mGate m x = 0 then nI (pg (L x.toNatClampNeg) - pg 0) else 0
def mFrN (m : MM) (L : Nat → Nat) : Nat → Int32
  | 0 => 0
  | t + 1 => if mFree m L t = true then mFrN m L t + 1 else mFrN m L t
def mFreeR (m : MM) (L : Nat → Nat) : Int32 := if mReady m = 0 then 0 else mFrN (smI m 0 0) L 101
def mOnC (m : MM) : Int32 := if mI m 4 = 0 then 1 else 0
def mSync (m : MM) (L : Nat → Nat) (ch : Nat → Nat → Nat) (cu tn : Nat) : MM := if mReady m = 0 then smI m 0 1 else smI (mSaveAll (smI m 0 0) L ch cu tn) 0 (mOnC (mSaveAll (smI m 0 0) L ch cu tn))
def mSyncR (m : MM) (L : Nat → Nat) (ch : Nat → Nat → Nat) (cu tn : Nat) : Int32 := if mReady m = 0 then 0 else if mI (mSaveAll (smI m 0 0) L ch cu tn) 4 = 0 then 0 else (mL (mSaveAll (smI m 0 0) L ch cu tn) 0 - mL m 0).toInt32
def mByteC (m : MM) (x y : Int32) : Int32 := if mReady m = 0 then 1 else if mIsFile m x = 0 then 2 else if y < 0 then 3 else if y < mA m 4 x.toNatClampNeg then 0 else 3
def mByteM (m : MM) (ch : Nat → Nat → Nat) (x y : Int32) : MM := mLoad (smI m 0 0) x.toNatClampNeg (ch x.toNatClampNeg (y.toNatClampNeg / 8))
def mByteAt (m : MM) (ch : Nat → Nat → Nat) (x y : Int32) : MM := if mByteC m x y = 0 then smI (mByteM m ch x y) 0 (mOnC (mByteM m ch x y)) else smI m 0 (mByteC m x y)
def mByteR (m : MM) (ch : Nat → Nat → Nat) (x y : Int32) : Int32 := if mByteC m x y = 0 then (if mI (mByteM m ch x y) 4 = 0 then 0 else mByte (mJ (mByteM m ch x y) 7 x.toNatClampNeg) (y.toNatClampNeg % 8)) else 0
theorem mRead_A (m : MM) (p : Nat) : mA (mRead m p) = mA m := by
  unfold mRead; split
  · rfl
  · exact mGoes_A m _
theorem mRead_I (m : MM) (p : Nat) {k : Nat} (h2 : k ≠ 2) (h3 : k ≠ 3) (h4 : k ≠ 4) : mI (mRead m p) k = mI m k := by
  unfold mRead; split
  · rfl
  · exact mGoes_I m _ h2 h3 h4
theorem mLoad_A (m : MM) (f p : Nat) {j : Nat} (h6 : j ≠ 6) (h8 : j ≠ 8) : mA (mLoad m f p) j = mA m j := by
  unfold mLoad; split
  · rfl
  · rw [mS, mA_A, if_neg h6, mSJ, mA_J, mRead_A, mSave_A _ _ h8]
theorem mLoad_I (m : MM) (f p : Nat) {k : Nat} (h2 : k ≠ 2) (h3 : k ≠ 3) (h4 : k ≠ 4) : mI (mLoad m f p) k = mI m k := by
  unfold mLoad; split
  · rfl
  · rw [mS, mI_A, mSJ, mI_J, mRead_I _ _ h2 h3 h4, mSave_I _ _ h2 h3 h4]
def mFresh (L : Nat → Nat) (f : Nat) : Bool := decide (L f % 8 = 0)
def mNeeds (m : MM) (L : Nat → Nat) (ch : Nat → Nat → Nat) (f : Nat) : Bool := mFresh L f || !decide (mA m 9 (ch f (L f / 8)) = 0)
def mApp1 (m : MM) (L : Nat → Nat) (ch : Nat → Nat → Nat) (f : Nat) : MM := if mFresh L f = true then mSJ (mSave (smI m 0 0) f) 7 f 0 else mLoad (smI m 0 0) f (ch f (L f / 8))
def mApp2 (m : MM) (L : Nat → Nat) (ch : Nat → Nat → Nat) (f : Nat) : MM := if mNeeds m L ch f = true then mS (mS (smI (mApp1 m L ch f) 0 0) 5 (64 * f + L f / 8) (mLeast (smI m 0 0) L 61 40)) 6 f (mLeast (smI m 0 0) L 61 40) else smI (mApp1 m L ch f) 0 0
def putR (x : Int64) (s b : Int32) : Int64 := (x &&& ((255 <<< (s.toInt64 &&& 63)) ^^^ -1)) ||| ((b.toInt64 &&& 255) <<< (s.toInt64 &&& 63))
def mApp3 (m : MM) (L : Nat → Nat) (ch : Nat → Nat → Nat) (f : Nat) (b : Int32) : MM := mS (mSJ (mApp2 m L ch f) 7 f (putR (mJ (mApp2 m L ch f) 7 f) (8 * (mA (mApp2 m L ch f) 4 f - mA (mApp2 m L ch f) 4 f / 8 * 8)) b)) 8 f 1
def mApp4 (m : MM) (L : Nat → Nat) (ch : Nat → Nat → Nat) (f : Nat) (b : Int32) : MM := mS (mApp3 m L ch f b) 4 f (mA (mApp3 m L ch f b) 4 f + 1)
def mAppend (m : MM) (L : Nat → Nat) (ch : Nat → Nat → Nat) (x b : Int32) : MM :=
  if mGate m x = 0 then
    (if mNeeds m L ch x.toNatClampNeg = true ∧ mLeast (smI m 0 0) L 61 40 < 0 then smI (smI m 0 0) 0 3
     else if mI (mApp1 m L ch x.toNatClampNeg) 4 = 0 then smI (mApp1 m L ch x.toNatClampNeg) 0 1 else mApp4 m L ch x.toNatClampNeg b)
  else smI m 0 (mGate m x)
def mAppendR (m : MM) (L : Nat → Nat) (ch : Nat → Nat → Nat) (x b : Int32) : Int32 :=
  if mGate m x = 0 then
    (if mNeeds m L ch x.toNatClampNeg = true ∧ mLeast (smI m 0 0) L 61 40 < 0 then 0
     else if mI (mApp1 m L ch x.toNatClampNeg) 4 = 0 then 0 else mA (mApp4 m L ch x.toNatClampNeg b) 4 x.toNatClampNeg)
  else 0
theorem c_Mod_pageOf (l : Launch) (G : GG) (a : AD) (c : CC) (m : MM) (o : OO) (x y : Int32) (L : Nat → Nat) (hL : MLn m L) : CT l G y_Mod_pageOf (.code y_Mod_pageOf b_Mod_pageOf 3 (some .int)) 1 0 0 (Fyes G) (wld G a c m o) [.ref (a 30 0), .int x, .int y] (fun r w2 => r = .inl (some (.int (mPageOfR m x y))) ∧ w2 = wld G a c (smI m 0 (mGate m x)) o) := by
  refine CT.of (by decide) (Nat.le_of_ble_eq_true rfl) rfl ?_
  intro E hl hG hF C r hw hex hnm
  subst hl; subst hG
  have Fw : Cw E := fun a h => by rw [hF]; exact h
  refine aw_aload_n (i := 0) C (dec D_Mod_pageOf rfl) rfl rfl ?_
  refine aw_aload_n (i := 0) C (dec D_Mod_pageOf rfl) rfl rfl ?_
  refine aw_cv C ci_Mod_160 [] (c_Mod_isReady _ _ _ _ _ _) (dec D_Mod_pageOf rfl) rcM rfl fpP (Nat.le_of_ble_eq_true rfl) (by decide) ⟨by decide, by decide⟩ (fun v w2 hp => ?_) (fun _ _ h => by cases h.1)
  obtain ⟨hv, rfl⟩ := hp
  cases hv
  refine aw_if_ne (tgt := 12) C (dec D_Mod_pageOf rfl) (by decide) (fun h5 => ?_) (fun h5 => ?_)
  · try simp only [mI_I, mL_I, mA_I, mJ_I, mI_L, mL_L, mA_L, mJ_L, mI_A, mL_A, mA_A, mJ_A, mI_J, mL_J, mA_J, mJ_J, cI_I, cL_I, cA_I, cJ_I, cR_I, cN_I, cI_L, cL_L, cA_L, cJ_L, cR_L, cN_L, cI_A, cL_A, cA_A, cJ_A, cR_A, cN_A, cI_J, cL_J, cA_J, cJ_J, cR_J, cN_J, cI_R, cL_R, cA_R, cJ_R, cR_R, cN_R, cI_N, cL_N, cA_N, cJ_N, cR_N, cN_N, ↓reduceIte, Nat.reduceEqDiff, upd_at, updL_at] at h5
    refine aw_aload_n (i := 0) C (dec D_Mod_pageOf rfl) rfl rfl ?_
    refine aw_iload_n (i := 1) C (dec D_Mod_pageOf rfl) rfl rfl ?_
    refine aw_cv C ci_Mod_166 [_] (c_Mod_isFile _ _ _ _ _ _ _) (dec D_Mod_pageOf rfl) rcM rfl fpP (Nat.le_of_ble_eq_true rfl) (by decide) ⟨by decide, by decide⟩ (fun v w2 hp => ?_) (fun _ _ h => by cases h.1)
    obtain ⟨hv, rfl⟩ := hp
    cases hv
    refine aw_if_ne (tgt := 24) C (dec D_Mod_pageOf rfl) (by decide) (fun h17 => ?_) (fun h17 => ?_)
    · try simp only [mI_I, mL_I, mA_I, mJ_I, mI_L, mL_L, mA_L, mJ_L, mI_A, mL_A, mA_A, mJ_A, mI_J, mL_J, mA_J, mJ_J, cI_I, cL_I, cA_I, cJ_I, cR_I, cN_I, cI_L, cL_L, cA_L, cJ_L, cR_L, cN_L, cI_A, cL_A, cA_A, cJ_A, cR_A, cN_A, cI_J, cL_J, cA_J, cJ_J, cR_J, cN_J, cI_R, cL_R, cA_R, cJ_R, cR_R, cN_R, cI_N, cL_N, cA_N, cJ_N, cR_N, cN_N, ↓reduceIte, Nat.reduceEqDiff, upd_at, updL_at] at h17
      refine aw_iconst (v := 0) C (dec D_Mod_pageOf rfl) (by decide) ?_
      refine pf_Mod_71 C Fw (dec D_Mod_pageOf rfl) ?_
      refine aw_aload_n (i := 0) C (dec D_Mod_pageOf rfl) rfl rfl ?_
      refine gf_Mod_71 C (dec D_Mod_pageOf rfl) ?_
      refine aw_if_le (tgt := 39) C (dec D_Mod_pageOf rfl) (by decide) (fun _ => ?_) (fun h_ => absurd (show (0 : Int32) ≤ (0 : Int32) by decide) h_)
      obtain ⟨t, ht, rfl, hnm⟩ := mIsFile_rng h17
      have ec := nI_clamp (n := t) (by omega)
      refine aw_iload_n (i := 2) C (dec D_Mod_pageOf rfl) rfl rfl ?_
      refine aw_if_lt (tgt := 52) C (dec D_Mod_pageOf rfl) (by decide) (fun h40 => ?_) (fun h40 => ?_)
      · try simp only [mI_I, mL_I, mA_I, mJ_I, mI_L, mL_L, mA_L, mJ_L, mI_A, mL_A, mA_A, mJ_A, mI_J, mL_J, mA_J, mJ_J, cI_I, cL_I, cA_I, cJ_I, cR_I, cN_I, cI_L, cL_L, cA_L, cJ_L, cR_L, cN_L, cI_A, cL_A, cA_A, cJ_A, cR_A, cN_A, cI_J, cL_J, cA_J, cJ_J, cR_J, cN_J, cI_R, cL_R, cA_R, cJ_R, cR_R, cN_R, cI_N, cL_N, cA_N, cJ_N, cR_N, cN_N, ↓reduceIte, Nat.reduceEqDiff, upd_at, updL_at] at h40
        refine aw_iconst (v := (-1)) C (dec D_Mod_pageOf rfl) (by decide) ?_
        refine aw_goto (tgt := 67) C (dec D_Mod_pageOf rfl) (by decide) ?_
        refine aw_ret_i C r (dec D_Mod_pageOf rfl) rfl (by decide) (by decide) ?_
        refine ⟨?_, ?_⟩ <;> first | with_reducible rfl | (simp [mI_I, mL_I, mA_I, mJ_I, mI_L, mL_L, mA_L, mJ_L, mI_A, mL_A, mA_A, mJ_A, mI_J, mL_J, mA_J, mJ_J, cI_I, cL_I, cA_I, cJ_I, cR_I, cN_I, cI_L, cL_L, cA_L, cJ_L, cR_L, cN_L, cI_A, cL_A, cA_A, cJ_A, cR_A, cN_A, cI_J, cL_J, cA_J, cJ_J, cR_J, cN_J, cI_R, cL_R, cA_R, cJ_R, cR_R, cN_R, cI_N, cL_N, cA_N, cJ_N, cR_N, cN_N, ↓reduceIte, Nat.reduceEqDiff, upd_at, updL_at, h5, h17, ec, h40, mPageOfR, mGate]; done) | (simp [mI_I, mL_I, mA_I, mJ_I, mI_L, mL_L, mA_L, mJ_L, mI_A, mL_A, mA_A, mJ_A, mI_J, mL_J, mA_J, mJ_J, cI_I, cL_I, cA_I, cJ_I, cR_I, cN_I, cI_L, cL_L, cA_L, cJ_L, cR_L, cN_L, cI_A, cL_A, cA_A, cJ_A, cR_A, cN_A, cI_J, cL_J, cA_J, cJ_J, cR_J, cN_J, cI_R, cL_R, cA_R, cJ_R, cR_R, cN_R, cI_N, cL_N, cA_N, cJ_N, cR_N, cN_N, ↓reduceIte, Nat.reduceEqDiff, upd_at, updL_at, h5, h17, ec, h40, mPageOfR, mGate]; rfl)
      · try simp only [mI_I, mL_I, mA_I, mJ_I, mI_L, mL_L, mA_L, mJ_L, mI_A, mL_A, mA_A, mJ_A, mI_J, mL_J, mA_J, mJ_J, cI_I, cL_I, cA_I, cJ_I, cR_I, cN_I, cI_L, cL_L, cA_L, cJ_L, cR_L, cN_L, cI_A, cL_A, cA_A, cJ_A, cR_A, cN_A, cI_J, cL_J, cA_J, cJ_J, cR_J, cN_J, cI_R, cL_R, cA_R, cJ_R, cR_R, cN_R, cI_N, cL_N, cA_N, cJ_N, cR_N, cN_N, ↓reduceIte, Nat.reduceEqDiff, upd_at, updL_at] at h40
        refine aw_iload_n (i := 2) C (dec D_Mod_pageOf rfl) rfl rfl ?_
        refine aw_aload_n (i := 0) C (dec D_Mod_pageOf rfl) rfl rfl ?_
        refine aw_iload_n (i := 1) C (dec D_Mod_pageOf rfl) rfl rfl ?_
        refine aw_cv C ci_Mod_122 [_] (c_Mod_pages _ _ _ _ _ _ t ht) (dec D_Mod_pageOf rfl) rcM rfl fpP (Nat.le_of_ble_eq_true rfl) (by decide) ⟨by decide, by decide⟩ (fun v w2 hp => ?_) (fun _ _ h => by cases h.1)
        obtain ⟨hv, rfl⟩ := hp
        cases hv
        refine aw_icmp_lt (tgt := 56) C (dec D_Mod_pageOf rfl) (by decide) (fun h49 => ?_) (fun h49 => ?_)
        · try simp only [mI_I, mL_I, mA_I, mJ_I, mI_L, mL_L, mA_L, mJ_L, mI_A, mL_A, mA_A, mJ_A, mI_J, mL_J, mA_J, mJ_J, cI_I, cL_I, cA_I, cJ_I, cR_I, cN_I, cI_L, cL_L, cA_L, cJ_L, cR_L, cN_L, cI_A, cL_A, cA_A, cJ_A, cR_A, cN_A, cI_J, cL_J, cA_J, cJ_J, cR_J, cN_J, cI_R, cL_R, cA_R, cJ_R, cR_R, cN_R, cI_N, cL_N, cA_N, cJ_N, cR_N, cN_N, ↓reduceIte, Nat.reduceEqDiff, upd_at, updL_at] at h49
          obtain ⟨i, hi, rfl⟩ := lt_pg (hL t ht).1 (hL t ht).2 h40 h49
          have := pg_le (hL t ht).2
          have ei := nI_clamp (n := i) (by omega)
          refine aw_aload_n (i := 0) C (dec D_Mod_pageOf rfl) rfl rfl ?_
          refine gf_Mod_32 C (dec D_Mod_pageOf rfl) ?_
          refine aw_bipush (v := 64) C (dec D_Mod_pageOf rfl) (by decide) ?_
          refine aw_iload_n (i := 1) C (dec D_Mod_pageOf rfl) rfl rfl ?_
          refine aw_imul C (dec D_Mod_pageOf rfl) ?_
          refine aw_iload_n (i := 2) C (dec D_Mod_pageOf rfl) rfl rfl ?_
          refine aw_iadd C (dec D_Mod_pageOf rfl) ?_
          refine al_M5 C (64 * t + i) (dec D_Mod_pageOf rfl) (ix_eq (nI_ch t i) (by omega)) ?_
          refine aw_ret_i C r (dec D_Mod_pageOf rfl) rfl (by decide) (by decide) ?_
          refine ⟨?_, ?_⟩ <;> first | with_reducible rfl | (simp [mI_I, mL_I, mA_I, mJ_I, mI_L, mL_L, mA_L, mJ_L, mI_A, mL_A, mA_A, mJ_A, mI_J, mL_J, mA_J, mJ_J, cI_I, cL_I, cA_I, cJ_I, cR_I, cN_I, cI_L, cL_L, cA_L, cJ_L, cR_L, cN_L, cI_A, cL_A, cA_A, cJ_A, cR_A, cN_A, cI_J, cL_J, cA_J, cJ_J, cR_J, cN_J, cI_R, cL_R, cA_R, cJ_R, cR_R, cN_R, cI_N, cL_N, cA_N, cJ_N, cR_N, cN_N, ↓reduceIte, Nat.reduceEqDiff, upd_at, updL_at, h5, h17, ec, h40, h49, ei, mPageOfR, mGate]; done) | (simp [mI_I, mL_I, mA_I, mJ_I, mI_L, mL_L, mA_L, mJ_L, mI_A, mL_A, mA_A, mJ_A, mI_J, mL_J, mA_J, mJ_J, cI_I, cL_I, cA_I, cJ_I, cR_I, cN_I, cI_L, cL_L, cA_L, cJ_L, cR_L, cN_L, cI_A, cL_A, cA_A, cJ_A, cR_A, cN_A, cI_J, cL_J, cA_J, cJ_J, cR_J, cN_J, cI_R, cL_R, cA_R, cJ_R, cR_R, cN_R, cI_N, cL_N, cA_N, cJ_N, cR_N, cN_N, ↓reduceIte, Nat.reduceEqDiff, upd_at, updL_at, h5, h17, ec, h40, h49, ei, mPageOfR, mGate]; rfl)
        · try simp only [mI_I, mL_I, mA_I, mJ_I, mI_L, mL_L, mA_L, mJ_L, mI_A, mL_A, mA_A, mJ_A, mI_J, mL_J, mA_J, mJ_J, cI_I, cL_I, cA_I, cJ_I, cR_I, cN_I, cI_L, cL_L, cA_L, cJ_L, cR_L, cN_L, cI_A, cL_A, cA_A, cJ_A, cR_A, cN_A, cI_J, cL_J, cA_J, cJ_J, cR_J, cN_J, cI_R, cL_R, cA_R, cJ_R, cR_R, cN_R, cI_N, cL_N, cA_N, cJ_N, cR_N, cN_N, ↓reduceIte, Nat.reduceEqDiff, upd_at, updL_at] at h49
          refine aw_iconst (v := (-1)) C (dec D_Mod_pageOf rfl) (by decide) ?_
          refine aw_goto (tgt := 67) C (dec D_Mod_pageOf rfl) (by decide) ?_
          refine aw_ret_i C r (dec D_Mod_pageOf rfl) rfl (by decide) (by decide) ?_
          refine ⟨?_, ?_⟩ <;> first | with_reducible rfl | (simp [mI_I, mL_I, mA_I, mJ_I, mI_L, mL_L, mA_L, mJ_L, mI_A, mL_A, mA_A, mJ_A, mI_J, mL_J, mA_J, mJ_J, cI_I, cL_I, cA_I, cJ_I, cR_I, cN_I, cI_L, cL_L, cA_L, cJ_L, cR_L, cN_L, cI_A, cL_A, cA_A, cJ_A, cR_A, cN_A, cI_J, cL_J, cA_J, cJ_J, cR_J, cN_J, cI_R, cL_R, cA_R, cJ_R, cR_R, cN_R, cI_N, cL_N, cA_N, cJ_N, cR_N, cN_N, ↓reduceIte, Nat.reduceEqDiff, upd_at, updL_at, h5, h17, ec, h40, h49, mPageOfR, mGate]; done) | (simp [mI_I, mL_I, mA_I, mJ_I, mI_L, mL_L, mA_L, mJ_L, mI_A, mL_A, mA_A, mJ_A, mI_J, mL_J, mA_J, mJ_J, cI_I, cL_I, cA_I, cJ_I, cR_I, cN_I, cI_L, cL_L, cA_L, cJ_L, cR_L, cN_L, cI_A, cL_A, cA_A, cJ_A, cR_A, cN_A, cI_J, cL_J, cA_J, cJ_J, cR_J, cN_J, cI_R, cL_R, cA_R, cJ_R, cR_R, cN_R, cI_N, cL_N, cA_N, cJ_N, cR_N, cN_N, ↓reduceIte, Nat.reduceEqDiff, upd_at, updL_at, h5, h17, ec, h40, h49, mPageOfR, mGate]; rfl)
    · try simp only [mI_I, mL_I, mA_I, mJ_I, mI_L, mL_L, mA_L, mJ_L, mI_A, mL_A, mA_A, mJ_A, mI_J, mL_J, mA_J, mJ_J, cI_I, cL_I, cA_I, cJ_I, cR_I, cN_I, cI_L, cL_L, cA_L, cJ_L, cR_L, cN_L, cI_A, cL_A, cA_A, cJ_A, cR_A, cN_A, cI_J, cL_J, cA_J, cJ_J, cR_J, cN_J, cI_R, cL_R, cA_R, cJ_R, cR_R, cN_R, cI_N, cL_N, cA_N, cJ_N, cR_N, cN_N, ↓reduceIte, Nat.reduceEqDiff, upd_at, updL_at] at h17
      refine aw_iconst (v := 2) C (dec D_Mod_pageOf rfl) (by decide) ?_
      refine aw_goto (tgt := 25) C (dec D_Mod_pageOf rfl) (by decide) ?_
      refine pf_Mod_71 C Fw (dec D_Mod_pageOf rfl) ?_
      refine aw_aload_n (i := 0) C (dec D_Mod_pageOf rfl) rfl rfl ?_
      refine gf_Mod_71 C (dec D_Mod_pageOf rfl) ?_
      refine aw_if_le (tgt := 39) C (dec D_Mod_pageOf rfl) (by decide) (fun h_ => absurd h_ (show ¬ (2 : Int32) ≤ (0 : Int32) by decide)) (fun _ => ?_)
      refine aw_iconst (v := 0) C (dec D_Mod_pageOf rfl) (by decide) ?_
      refine aw_goto (tgt := 67) C (dec D_Mod_pageOf rfl) (by decide) ?_
      refine aw_ret_i C r (dec D_Mod_pageOf rfl) rfl (by decide) (by decide) ?_
      refine ⟨?_, ?_⟩ <;> first | with_reducible rfl | (simp [mI_I, mL_I, mA_I, mJ_I, mI_L, mL_L, mA_L, mJ_L, mI_A, mL_A, mA_A, mJ_A, mI_J, mL_J, mA_J, mJ_J, cI_I, cL_I, cA_I, cJ_I, cR_I, cN_I, cI_L, cL_L, cA_L, cJ_L, cR_L, cN_L, cI_A, cL_A, cA_A, cJ_A, cR_A, cN_A, cI_J, cL_J, cA_J, cJ_J, cR_J, cN_J, cI_R, cL_R, cA_R, cJ_R, cR_R, cN_R, cI_N, cL_N, cA_N, cJ_N, cR_N, cN_N, ↓reduceIte, Nat.reduceEqDiff, upd_at, updL_at, h5, h17, mPageOfR, mGate]; done) | (simp [mI_I, mL_I, mA_I, mJ_I, mI_L, mL_L, mA_L, mJ_L, mI_A, mL_A, mA_A, mJ_A, mI_J, mL_J, mA_J, mJ_J, cI_I, cL_I, cA_I, cJ_I, cR_I, cN_I, cI_L, cL_L, cA_L, cJ_L, cR_L, cN_L, cI_A, cL_A, cA_A, cJ_A, cR_A, cN_A, cI_J, cL_J, cA_J, cJ_J, cR_J, cN_J, cI_R, cL_R, cA_R, cJ_R, cR_R, cN_R, cI_N, cL_N, cA_N, cJ_N, cR_N, cN_N, ↓reduceIte, Nat.reduceEqDiff, upd_at, updL_at, h5, h17, mPageOfR, mGate]; rfl)
  · try simp only [mI_I, mL_I, mA_I, mJ_I, mI_L, mL_L, mA_L, mJ_L, mI_A, mL_A, mA_A, mJ_A, mI_J, mL_J, mA_J, mJ_J, cI_I, cL_I, cA_I, cJ_I, cR_I, cN_I, cI_L, cL_L, cA_L, cJ_L, cR_L, cN_L, cI_A, cL_A, cA_A, cJ_A, cR_A, cN_A, cI_J, cL_J, cA_J, cJ_J, cR_J, cN_J, cI_R, cL_R, cA_R, cJ_R, cR_R, cN_R, cI_N, cL_N, cA_N, cJ_N, cR_N, cN_N, ↓reduceIte, Nat.reduceEqDiff, upd_at, updL_at] at h5
    refine aw_iconst (v := 1) C (dec D_Mod_pageOf rfl) (by decide) ?_
    refine aw_goto (tgt := 25) C (dec D_Mod_pageOf rfl) (by decide) ?_
    refine pf_Mod_71 C Fw (dec D_Mod_pageOf rfl) ?_
    refine aw_aload_n (i := 0) C (dec D_Mod_pageOf rfl) rfl rfl ?_
    refine gf_Mod_71 C (dec D_Mod_pageOf rfl) ?_
    refine aw_if_le (tgt := 39) C (dec D_Mod_pageOf rfl) (by decide) (fun h_ => absurd h_ (show ¬ (1 : Int32) ≤ (0 : Int32) by decide)) (fun _ => ?_)
    refine aw_iconst (v := 0) C (dec D_Mod_pageOf rfl) (by decide) ?_
    refine aw_goto (tgt := 67) C (dec D_Mod_pageOf rfl) (by decide) ?_
    refine aw_ret_i C r (dec D_Mod_pageOf rfl) rfl (by decide) (by decide) ?_
    refine ⟨?_, ?_⟩ <;> first | with_reducible rfl | (simp [mI_I, mL_I, mA_I, mJ_I, mI_L, mL_L, mA_L, mJ_L, mI_A, mL_A, mA_A, mJ_A, mI_J, mL_J, mA_J, mJ_J, cI_I, cL_I, cA_I, cJ_I, cR_I, cN_I, cI_L, cL_L, cA_L, cJ_L, cR_L, cN_L, cI_A, cL_A, cA_A, cJ_A, cR_A, cN_A, cI_J, cL_J, cA_J, cJ_J, cR_J, cN_J, cI_R, cL_R, cA_R, cJ_R, cR_R, cN_R, cI_N, cL_N, cA_N, cJ_N, cR_N, cN_N, ↓reduceIte, Nat.reduceEqDiff, upd_at, updL_at, h5, mPageOfR, mGate]; done) | (simp [mI_I, mL_I, mA_I, mJ_I, mI_L, mL_L, mA_L, mJ_L, mI_A, mL_A, mA_A, mJ_A, mI_J, mL_J, mA_J, mJ_J, cI_I, cL_I, cA_I, cJ_I, cR_I, cN_I, cI_L, cL_L, cA_L, cJ_L, cR_L, cN_L, cI_A, cL_A, cA_A, cJ_A, cR_A, cN_A, cI_J, cL_J, cA_J, cJ_J, cR_J, cN_J, cI_R, cL_R, cA_R, cJ_R, cR_R, cN_R, cI_N, cL_N, cA_N, cJ_N, cR_N, cN_N, ↓reduceIte, Nat.reduceEqDiff, upd_at, updL_at, h5, mPageOfR, mGate]; rfl)
theorem c_Mod_queue (l : Launch) (G : GG) (a : AD) (c : CC) (m : MM) (o : OO) (x y : Int32) (v : Int64) (q : Nat) (hy : y = 0 ∨ y = 1) (hq : mI m 8 = nI q ∧ q ≤ 16) : CT l G y_Mod_queue (.code y_Mod_queue b_Mod_queue 5 (some .int)) 1 0 0 (Fyes G) (wld G a c m o) [.ref (a 30 0), .int x, .int y, .long v] (fun r w2 => r = .inl (some (.int (mQueueR m x))) ∧ w2 = wld G a c (mQueue m x y v) o) := by
  refine CT.of (by decide) (Nat.le_of_ble_eq_true rfl) rfl ?_
  intro E hl hG hF C r hw hex hnm
  subst hl; subst hG
  have Fw : Cw E := fun a h => by rw [hF]; exact h
  refine aw_aload_n (i := 0) C (dec D_Mod_queue rfl) rfl rfl ?_
  refine aw_aload_n (i := 0) C (dec D_Mod_queue rfl) rfl rfl ?_
  refine aw_cv C ci_Mod_160 [] (c_Mod_isReady _ _ _ _ _ _) (dec D_Mod_queue rfl) rcM rfl fpP (Nat.le_of_ble_eq_true rfl) (by decide) ⟨by decide, by decide⟩ (fun v w2 hp => ?_) (fun _ _ h => by cases h.1)
  obtain ⟨hv, rfl⟩ := hp
  cases hv
  refine aw_if_ne (tgt := 12) C (dec D_Mod_queue rfl) (by decide) (fun h5 => ?_) (fun h5 => ?_)
  · try simp only [mI_I, mL_I, mA_I, mJ_I, mI_L, mL_L, mA_L, mJ_L, mI_A, mL_A, mA_A, mJ_A, mI_J, mL_J, mA_J, mJ_J, cI_I, cL_I, cA_I, cJ_I, cR_I, cN_I, cI_L, cL_L, cA_L, cJ_L, cR_L, cN_L, cI_A, cL_A, cA_A, cJ_A, cR_A, cN_A, cI_J, cL_J, cA_J, cJ_J, cR_J, cN_J, cI_R, cL_R, cA_R, cJ_R, cR_R, cN_R, cI_N, cL_N, cA_N, cJ_N, cR_N, cN_N, ↓reduceIte, Nat.reduceEqDiff, upd_at, updL_at] at h5
    refine aw_iload_n (i := 1) C (dec D_Mod_queue rfl) rfl rfl ?_
    refine aw_if_lt (tgt := 22) C (dec D_Mod_queue rfl) (by decide) (fun h13 => ?_) (fun h13 => ?_)
    · try simp only [mI_I, mL_I, mA_I, mJ_I, mI_L, mL_L, mA_L, mJ_L, mI_A, mL_A, mA_A, mJ_A, mI_J, mL_J, mA_J, mJ_J, cI_I, cL_I, cA_I, cJ_I, cR_I, cN_I, cI_L, cL_L, cA_L, cJ_L, cR_L, cN_L, cI_A, cL_A, cA_A, cJ_A, cR_A, cN_A, cI_J, cL_J, cA_J, cJ_J, cR_J, cN_J, cI_R, cL_R, cA_R, cJ_R, cR_R, cN_R, cI_N, cL_N, cA_N, cJ_N, cR_N, cN_N, ↓reduceIte, Nat.reduceEqDiff, upd_at, updL_at] at h13
      refine aw_iconst (v := 2) C (dec D_Mod_queue rfl) (by decide) ?_
      refine aw_goto (tgt := 40) C (dec D_Mod_queue rfl) (by decide) ?_
      refine pf_Mod_71 C Fw (dec D_Mod_queue rfl) ?_
      refine aw_aload_n (i := 0) C (dec D_Mod_queue rfl) rfl rfl ?_
      refine gf_Mod_71 C (dec D_Mod_queue rfl) ?_
      refine aw_if_le (tgt := 52) C (dec D_Mod_queue rfl) (by decide) (fun h_ => absurd h_ (show ¬ (2 : Int32) ≤ (0 : Int32) by decide)) (fun _ => ?_)
      refine aw_iconst (v := 0) C (dec D_Mod_queue rfl) (by decide) ?_
      refine aw_ret_i C r (dec D_Mod_queue rfl) rfl (by decide) (by decide) ?_
      refine ⟨?_, ?_⟩ <;> first | with_reducible rfl | (simp [mI_I, mL_I, mA_I, mJ_I, mI_L, mL_L, mA_L, mJ_L, mI_A, mL_A, mA_A, mJ_A, mI_J, mL_J, mA_J, mJ_J, cI_I, cL_I, cA_I, cJ_I, cR_I, cN_I, cI_L, cL_L, cA_L, cJ_L, cR_L, cN_L, cI_A, cL_A, cA_A, cJ_A, cR_A, cN_A, cI_J, cL_J, cA_J, cJ_J, cR_J, cN_J, cI_R, cL_R, cA_R, cJ_R, cR_R, cN_R, cI_N, cL_N, cA_N, cJ_N, cR_N, cN_N, ↓reduceIte, Nat.reduceEqDiff, upd_at, updL_at, h5, h13, mQueueR, mQueue, mQueueC]; done) | (simp [mI_I, mL_I, mA_I, mJ_I, mI_L, mL_L, mA_L, mJ_L, mI_A, mL_A, mA_A, mJ_A, mI_J, mL_J, mA_J, mJ_J, cI_I, cL_I, cA_I, cJ_I, cR_I, cN_I, cI_L, cL_L, cA_L, cJ_L, cR_L, cN_L, cI_A, cL_A, cA_A, cJ_A, cR_A, cN_A, cI_J, cL_J, cA_J, cJ_J, cR_J, cN_J, cI_R, cL_R, cA_R, cJ_R, cR_R, cN_R, cI_N, cL_N, cA_N, cJ_N, cR_N, cN_N, ↓reduceIte, Nat.reduceEqDiff, upd_at, updL_at, h5, h13, mQueueR, mQueue, mQueueC]; rfl)
    · try simp only [mI_I, mL_I, mA_I, mJ_I, mI_L, mL_L, mA_L, mJ_L, mI_A, mL_A, mA_A, mJ_A, mI_J, mL_J, mA_J, mJ_J, cI_I, cL_I, cA_I, cJ_I, cR_I, cN_I, cI_L, cL_L, cA_L, cJ_L, cR_L, cN_L, cI_A, cL_A, cA_A, cJ_A, cR_A, cN_A, cI_J, cL_J, cA_J, cJ_J, cR_J, cN_J, cI_R, cL_R, cA_R, cJ_R, cR_R, cN_R, cI_N, cL_N, cA_N, cJ_N, cR_N, cN_N, ↓reduceIte, Nat.reduceEqDiff, upd_at, updL_at] at h13
      refine aw_iload_n (i := 1) C (dec D_Mod_queue rfl) rfl rfl ?_
      refine aw_bipush (v := 100) C (dec D_Mod_queue rfl) (by decide) ?_
      refine aw_icmp_le (tgt := 26) C (dec D_Mod_queue rfl) (by decide) (fun h19 => ?_) (fun h19 => ?_)
      · try simp only [mI_I, mL_I, mA_I, mJ_I, mI_L, mL_L, mA_L, mJ_L, mI_A, mL_A, mA_A, mJ_A, mI_J, mL_J, mA_J, mJ_J, cI_I, cL_I, cA_I, cJ_I, cR_I, cN_I, cI_L, cL_L, cA_L, cJ_L, cR_L, cN_L, cI_A, cL_A, cA_A, cJ_A, cR_A, cN_A, cI_J, cL_J, cA_J, cJ_J, cR_J, cN_J, cI_R, cL_R, cA_R, cJ_R, cR_R, cN_R, cI_N, cL_N, cA_N, cJ_N, cR_N, cN_N, ↓reduceIte, Nat.reduceEqDiff, upd_at, updL_at] at h19
        refine aw_aload_n (i := 0) C (dec D_Mod_queue rfl) rfl rfl ?_
        refine gf_Mod_102 C (dec D_Mod_queue rfl) ?_
        refine aw_bipush (v := 16) C (dec D_Mod_queue rfl) (by decide) ?_
        refine aw_icmp_ne (tgt := 39) C (dec D_Mod_queue rfl) (by decide) (fun h32 => ?_) (fun h32 => ?_)
        · try simp only [mI_I, mL_I, mA_I, mJ_I, mI_L, mL_L, mA_L, mJ_L, mI_A, mL_A, mA_A, mJ_A, mI_J, mL_J, mA_J, mJ_J, cI_I, cL_I, cA_I, cJ_I, cR_I, cN_I, cI_L, cL_L, cA_L, cJ_L, cR_L, cN_L, cI_A, cL_A, cA_A, cJ_A, cR_A, cN_A, cI_J, cL_J, cA_J, cJ_J, cR_J, cN_J, cI_R, cL_R, cA_R, cJ_R, cR_R, cN_R, cI_N, cL_N, cA_N, cJ_N, cR_N, cN_N, ↓reduceIte, Nat.reduceEqDiff, upd_at, updL_at] at h32
          refine aw_iconst (v := 0) C (dec D_Mod_queue rfl) (by decide) ?_
          refine pf_Mod_71 C Fw (dec D_Mod_queue rfl) ?_
          refine aw_aload_n (i := 0) C (dec D_Mod_queue rfl) rfl rfl ?_
          refine gf_Mod_71 C (dec D_Mod_queue rfl) ?_
          refine aw_if_le (tgt := 52) C (dec D_Mod_queue rfl) (by decide) (fun _ => ?_) (fun h_ => absurd (show (0 : Int32) ≤ (0 : Int32) by decide) h_)
          have eq := hq.1
          have hq2 : q < 16 := Nat.lt_of_le_of_ne hq.2 (fun z => h32 (by rw [eq, z]; rfl))
          have ec := nI_clamp (n := q) (by omega)
          have h32b : ¬ nI q = 16 := eq ▸ h32
          refine aw_aload_n (i := 0) C (dec D_Mod_queue rfl) rfl rfl ?_
          refine gf_Mod_53 C (dec D_Mod_queue rfl) ?_
          refine aw_aload_n (i := 0) C (dec D_Mod_queue rfl) rfl rfl ?_
          refine gf_Mod_102 C (dec D_Mod_queue rfl) ?_
          refine aw_iload_n (i := 1) C (dec D_Mod_queue rfl) rfl rfl ?_
          refine as_M12 C Fw q (dec D_Mod_queue rfl) (ix_eq eq (by omega)) ?_
          refine aw_aload_n (i := 0) C (dec D_Mod_queue rfl) rfl rfl ?_
          refine gf_Mod_56 C (dec D_Mod_queue rfl) ?_
          refine aw_aload_n (i := 0) C (dec D_Mod_queue rfl) rfl rfl ?_
          refine gf_Mod_102 C (dec D_Mod_queue rfl) ?_
          refine aw_iload_n (i := 2) C (dec D_Mod_queue rfl) rfl rfl ?_
          refine as_M13 C Fw q hy (dec D_Mod_queue rfl) (ix_eq eq (by omega)) ?_
          refine aw_aload_n (i := 0) C (dec D_Mod_queue rfl) rfl rfl ?_
          refine gf_Mod_59 C (dec D_Mod_queue rfl) ?_
          refine aw_aload_n (i := 0) C (dec D_Mod_queue rfl) rfl rfl ?_
          refine gf_Mod_102 C (dec D_Mod_queue rfl) ?_
          refine aw_lload_n (i := 3) C (dec D_Mod_queue rfl) rfl rfl ?_
          refine as_M14 C Fw q (dec D_Mod_queue rfl) (ix_eq eq (by omega)) ?_
          refine aw_aload_n (i := 0) C (dec D_Mod_queue rfl) rfl rfl ?_
          refine aw_dup C (dec D_Mod_queue rfl) rfl ?_
          refine gf_Mod_102 C (dec D_Mod_queue rfl) ?_
          refine aw_iconst (v := 1) C (dec D_Mod_queue rfl) (by decide) ?_
          refine aw_iadd C (dec D_Mod_queue rfl) ?_
          refine pf_Mod_102 C Fw (dec D_Mod_queue rfl) ?_
          refine aw_aload_n (i := 0) C (dec D_Mod_queue rfl) rfl rfl ?_
          refine gf_Mod_102 C (dec D_Mod_queue rfl) ?_
          refine aw_iconst (v := 1) C (dec D_Mod_queue rfl) (by decide) ?_
          refine aw_isub C (dec D_Mod_queue rfl) ?_
          refine aw_ret_i C r (dec D_Mod_queue rfl) rfl (by decide) (by decide) ?_
          refine ⟨?_, ?_⟩ <;> first | with_reducible rfl | (simp [mI_I, mL_I, mA_I, mJ_I, mI_L, mL_L, mA_L, mJ_L, mI_A, mL_A, mA_A, mJ_A, mI_J, mL_J, mA_J, mJ_J, cI_I, cL_I, cA_I, cJ_I, cR_I, cN_I, cI_L, cL_L, cA_L, cJ_L, cR_L, cN_L, cI_A, cL_A, cA_A, cJ_A, cR_A, cN_A, cI_J, cL_J, cA_J, cJ_J, cR_J, cN_J, cI_R, cL_R, cA_R, cJ_R, cR_R, cN_R, cI_N, cL_N, cA_N, cJ_N, cR_N, cN_N, ↓reduceIte, Nat.reduceEqDiff, upd_at, updL_at, h5, h13, h19, h32, ec, eq, h32b, mQueueR, mQueue, mQueueC]; done) | (simp [mI_I, mL_I, mA_I, mJ_I, mI_L, mL_L, mA_L, mJ_L, mI_A, mL_A, mA_A, mJ_A, mI_J, mL_J, mA_J, mJ_J, cI_I, cL_I, cA_I, cJ_I, cR_I, cN_I, cI_L, cL_L, cA_L, cJ_L, cR_L, cN_L, cI_A, cL_A, cA_A, cJ_A, cR_A, cN_A, cI_J, cL_J, cA_J, cJ_J, cR_J, cN_J, cI_R, cL_R, cA_R, cJ_R, cR_R, cN_R, cI_N, cL_N, cA_N, cJ_N, cR_N, cN_N, ↓reduceIte, Nat.reduceEqDiff, upd_at, updL_at, h5, h13, h19, h32, ec, eq, h32b, mQueueR, mQueue, mQueueC]; rfl)
        · try simp only [mI_I, mL_I, mA_I, mJ_I, mI_L, mL_L, mA_L, mJ_L, mI_A, mL_A, mA_A, mJ_A, mI_J, mL_J, mA_J, mJ_J, cI_I, cL_I, cA_I, cJ_I, cR_I, cN_I, cI_L, cL_L, cA_L, cJ_L, cR_L, cN_L, cI_A, cL_A, cA_A, cJ_A, cR_A, cN_A, cI_J, cL_J, cA_J, cJ_J, cR_J, cN_J, cI_R, cL_R, cA_R, cJ_R, cR_R, cN_R, cI_N, cL_N, cA_N, cJ_N, cR_N, cN_N, ↓reduceIte, Nat.reduceEqDiff, upd_at, updL_at] at h32
          refine aw_iconst (v := 3) C (dec D_Mod_queue rfl) (by decide) ?_
          refine aw_goto (tgt := 40) C (dec D_Mod_queue rfl) (by decide) ?_
          refine pf_Mod_71 C Fw (dec D_Mod_queue rfl) ?_
          refine aw_aload_n (i := 0) C (dec D_Mod_queue rfl) rfl rfl ?_
          refine gf_Mod_71 C (dec D_Mod_queue rfl) ?_
          refine aw_if_le (tgt := 52) C (dec D_Mod_queue rfl) (by decide) (fun h_ => absurd h_ (show ¬ (3 : Int32) ≤ (0 : Int32) by decide)) (fun _ => ?_)
          refine aw_iconst (v := 0) C (dec D_Mod_queue rfl) (by decide) ?_
          refine aw_ret_i C r (dec D_Mod_queue rfl) rfl (by decide) (by decide) ?_
          refine ⟨?_, ?_⟩ <;> first | with_reducible rfl | (simp [mI_I, mL_I, mA_I, mJ_I, mI_L, mL_L, mA_L, mJ_L, mI_A, mL_A, mA_A, mJ_A, mI_J, mL_J, mA_J, mJ_J, cI_I, cL_I, cA_I, cJ_I, cR_I, cN_I, cI_L, cL_L, cA_L, cJ_L, cR_L, cN_L, cI_A, cL_A, cA_A, cJ_A, cR_A, cN_A, cI_J, cL_J, cA_J, cJ_J, cR_J, cN_J, cI_R, cL_R, cA_R, cJ_R, cR_R, cN_R, cI_N, cL_N, cA_N, cJ_N, cR_N, cN_N, ↓reduceIte, Nat.reduceEqDiff, upd_at, updL_at, h5, h13, h19, h32, mQueueR, mQueue, mQueueC]; done) | (simp [mI_I, mL_I, mA_I, mJ_I, mI_L, mL_L, mA_L, mJ_L, mI_A, mL_A, mA_A, mJ_A, mI_J, mL_J, mA_J, mJ_J, cI_I, cL_I, cA_I, cJ_I, cR_I, cN_I, cI_L, cL_L, cA_L, cJ_L, cR_L, cN_L, cI_A, cL_A, cA_A, cJ_A, cR_A, cN_A, cI_J, cL_J, cA_J, cJ_J, cR_J, cN_J, cI_R, cL_R, cA_R, cJ_R, cR_R, cN_R, cI_N, cL_N, cA_N, cJ_N, cR_N, cN_N, ↓reduceIte, Nat.reduceEqDiff, upd_at, updL_at, h5, h13, h19, h32, mQueueR, mQueue, mQueueC]; rfl)
      · try simp only [mI_I, mL_I, mA_I, mJ_I, mI_L, mL_L, mA_L, mJ_L, mI_A, mL_A, mA_A, mJ_A, mI_J, mL_J, mA_J, mJ_J, cI_I, cL_I, cA_I, cJ_I, cR_I, cN_I, cI_L, cL_L, cA_L, cJ_L, cR_L, cN_L, cI_A, cL_A, cA_A, cJ_A, cR_A, cN_A, cI_J, cL_J, cA_J, cJ_J, cR_J, cN_J, cI_R, cL_R, cA_R, cJ_R, cR_R, cN_R, cI_N, cL_N, cA_N, cJ_N, cR_N, cN_N, ↓reduceIte, Nat.reduceEqDiff, upd_at, updL_at] at h19
        refine aw_iconst (v := 2) C (dec D_Mod_queue rfl) (by decide) ?_
        refine aw_goto (tgt := 40) C (dec D_Mod_queue rfl) (by decide) ?_
        refine pf_Mod_71 C Fw (dec D_Mod_queue rfl) ?_
        refine aw_aload_n (i := 0) C (dec D_Mod_queue rfl) rfl rfl ?_
        refine gf_Mod_71 C (dec D_Mod_queue rfl) ?_
        refine aw_if_le (tgt := 52) C (dec D_Mod_queue rfl) (by decide) (fun h_ => absurd h_ (show ¬ (2 : Int32) ≤ (0 : Int32) by decide)) (fun _ => ?_)
        refine aw_iconst (v := 0) C (dec D_Mod_queue rfl) (by decide) ?_
        refine aw_ret_i C r (dec D_Mod_queue rfl) rfl (by decide) (by decide) ?_
        refine ⟨?_, ?_⟩ <;> first | with_reducible rfl | (simp [mI_I, mL_I, mA_I, mJ_I, mI_L, mL_L, mA_L, mJ_L, mI_A, mL_A, mA_A, mJ_A, mI_J, mL_J, mA_J, mJ_J, cI_I, cL_I, cA_I, cJ_I, cR_I, cN_I, cI_L, cL_L, cA_L, cJ_L, cR_L, cN_L, cI_A, cL_A, cA_A, cJ_A, cR_A, cN_A, cI_J, cL_J, cA_J, cJ_J, cR_J, cN_J, cI_R, cL_R, cA_R, cJ_R, cR_R, cN_R, cI_N, cL_N, cA_N, cJ_N, cR_N, cN_N, ↓reduceIte, Nat.reduceEqDiff, upd_at, updL_at, h5, h13, h19, mQueueR, mQueue, mQueueC]; done) | (simp [mI_I, mL_I, mA_I, mJ_I, mI_L, mL_L, mA_L, mJ_L, mI_A, mL_A, mA_A, mJ_A, mI_J, mL_J, mA_J, mJ_J, cI_I, cL_I, cA_I, cJ_I, cR_I, cN_I, cI_L, cL_L, cA_L, cJ_L, cR_L, cN_L, cI_A, cL_A, cA_A, cJ_A, cR_A, cN_A, cI_J, cL_J, cA_J, cJ_J, cR_J, cN_J, cI_R, cL_R, cA_R, cJ_R, cR_R, cN_R, cI_N, cL_N, cA_N, cJ_N, cR_N, cN_N, ↓reduceIte, Nat.reduceEqDiff, upd_at, updL_at, h5, h13, h19, mQueueR, mQueue, mQueueC]; rfl)
  · try simp only [mI_I, mL_I, mA_I, mJ_I, mI_L, mL_L, mA_L, mJ_L, mI_A, mL_A, mA_A, mJ_A, mI_J, mL_J, mA_J, mJ_J, cI_I, cL_I, cA_I, cJ_I, cR_I, cN_I, cI_L, cL_L, cA_L, cJ_L, cR_L, cN_L, cI_A, cL_A, cA_A, cJ_A, cR_A, cN_A, cI_J, cL_J, cA_J, cJ_J, cR_J, cN_J, cI_R, cL_R, cA_R, cJ_R, cR_R, cN_R, cI_N, cL_N, cA_N, cJ_N, cR_N, cN_N, ↓reduceIte, Nat.reduceEqDiff, upd_at, updL_at] at h5
    refine aw_iconst (v := 1) C (dec D_Mod_queue rfl) (by decide) ?_
    refine aw_goto (tgt := 40) C (dec D_Mod_queue rfl) (by decide) ?_
    refine pf_Mod_71 C Fw (dec D_Mod_queue rfl) ?_
    refine aw_aload_n (i := 0) C (dec D_Mod_queue rfl) rfl rfl ?_
    refine gf_Mod_71 C (dec D_Mod_queue rfl) ?_
    refine aw_if_le (tgt := 52) C (dec D_Mod_queue rfl) (by decide) (fun h_ => absurd h_ (show ¬ (1 : Int32) ≤ (0 : Int32) by decide)) (fun _ => ?_)
    refine aw_iconst (v := 0) C (dec D_Mod_queue rfl) (by decide) ?_
    refine aw_ret_i C r (dec D_Mod_queue rfl) rfl (by decide) (by decide) ?_
    refine ⟨?_, ?_⟩ <;> first | with_reducible rfl | (simp [mI_I, mL_I, mA_I, mJ_I, mI_L, mL_L, mA_L, mJ_L, mI_A, mL_A, mA_A, mJ_A, mI_J, mL_J, mA_J, mJ_J, cI_I, cL_I, cA_I, cJ_I, cR_I, cN_I, cI_L, cL_L, cA_L, cJ_L, cR_L, cN_L, cI_A, cL_A, cA_A, cJ_A, cR_A, cN_A, cI_J, cL_J, cA_J, cJ_J, cR_J, cN_J, cI_R, cL_R, cA_R, cJ_R, cR_R, cN_R, cI_N, cL_N, cA_N, cJ_N, cR_N, cN_N, ↓reduceIte, Nat.reduceEqDiff, upd_at, updL_at, h5, mQueueR, mQueue, mQueueC]; done) | (simp [mI_I, mL_I, mA_I, mJ_I, mI_L, mL_L, mA_L, mJ_L, mI_A, mL_A, mA_A, mJ_A, mI_J, mL_J, mA_J, mJ_J, cI_I, cL_I, cA_I, cJ_I, cR_I, cN_I, cI_L, cL_L, cA_L, cJ_L, cR_L, cN_L, cI_A, cL_A, cA_A, cJ_A, cR_A, cN_A, cI_J, cL_J, cA_J, cJ_J, cR_J, cN_J, cI_R, cL_R, cA_R, cJ_R, cR_R, cN_R, cI_N, cL_N, cA_N, cJ_N, cR_N, cN_N, ↓reduceIte, Nat.reduceEqDiff, upd_at, updL_at, h5, mQueueR, mQueue, mQueueC]; rfl)
theorem c_Mod_served (l : Launch) (G : GG) (a : AD) (c : CC) (m : MM) (o : OO) (x : Int32) (q : Nat) (hq : mI m 9 = nI q ∧ q ≤ 16) : CT l G y_Mod_served (.code y_Mod_served b_Mod_served 2 (some .long)) 1 0 0 (Fyes G) (wld G a c m o) [.ref (a 30 0), .int x] (fun r w2 => r = .inl (some (.long (mServedR m x))) ∧ w2 = wld G a c (smI m 0 (mServedC m x)) o) := by
  refine CT.of (by decide) (Nat.le_of_ble_eq_true rfl) rfl ?_
  intro E hl hG hF C r hw hex hnm
  subst hl; subst hG
  have Fw : Cw E := fun a h => by rw [hF]; exact h
  refine aw_aload_n (i := 0) C (dec D_Mod_served rfl) rfl rfl ?_
  refine aw_aload_n (i := 0) C (dec D_Mod_served rfl) rfl rfl ?_
  refine aw_cv C ci_Mod_160 [] (c_Mod_isReady _ _ _ _ _ _) (dec D_Mod_served rfl) rcM rfl fpP (Nat.le_of_ble_eq_true rfl) (by decide) ⟨by decide, by decide⟩ (fun v w2 hp => ?_) (fun _ _ h => by cases h.1)
  obtain ⟨hv, rfl⟩ := hp
  cases hv
  refine aw_if_ne (tgt := 12) C (dec D_Mod_served rfl) (by decide) (fun h5 => ?_) (fun h5 => ?_)
  · try simp only [mI_I, mL_I, mA_I, mJ_I, mI_L, mL_L, mA_L, mJ_L, mI_A, mL_A, mA_A, mJ_A, mI_J, mL_J, mA_J, mJ_J, cI_I, cL_I, cA_I, cJ_I, cR_I, cN_I, cI_L, cL_L, cA_L, cJ_L, cR_L, cN_L, cI_A, cL_A, cA_A, cJ_A, cR_A, cN_A, cI_J, cL_J, cA_J, cJ_J, cR_J, cN_J, cI_R, cL_R, cA_R, cJ_R, cR_R, cN_R, cI_N, cL_N, cA_N, cJ_N, cR_N, cN_N, ↓reduceIte, Nat.reduceEqDiff, upd_at, updL_at] at h5
    refine aw_iload_n (i := 1) C (dec D_Mod_served rfl) rfl rfl ?_
    refine aw_if_lt (tgt := 24) C (dec D_Mod_served rfl) (by decide) (fun h13 => ?_) (fun h13 => ?_)
    · try simp only [mI_I, mL_I, mA_I, mJ_I, mI_L, mL_L, mA_L, mJ_L, mI_A, mL_A, mA_A, mJ_A, mI_J, mL_J, mA_J, mJ_J, cI_I, cL_I, cA_I, cJ_I, cR_I, cN_I, cI_L, cL_L, cA_L, cJ_L, cR_L, cN_L, cI_A, cL_A, cA_A, cJ_A, cR_A, cN_A, cI_J, cL_J, cA_J, cJ_J, cR_J, cN_J, cI_R, cL_R, cA_R, cJ_R, cR_R, cN_R, cI_N, cL_N, cA_N, cJ_N, cR_N, cN_N, ↓reduceIte, Nat.reduceEqDiff, upd_at, updL_at] at h13
      refine aw_iconst (v := 2) C (dec D_Mod_served rfl) (by decide) ?_
      refine aw_goto (tgt := 29) C (dec D_Mod_served rfl) (by decide) ?_
      refine pf_Mod_71 C Fw (dec D_Mod_served rfl) ?_
      refine aw_aload_n (i := 0) C (dec D_Mod_served rfl) rfl rfl ?_
      refine gf_Mod_71 C (dec D_Mod_served rfl) ?_
      refine aw_if_le (tgt := 43) C (dec D_Mod_served rfl) (by decide) (fun h_ => absurd h_ (show ¬ (2 : Int32) ≤ (0 : Int32) by decide)) (fun _ => ?_)
      refine aw_lconst (v := 0) C (dec D_Mod_served rfl) (by decide) ?_
      refine aw_goto (tgt := 49) C (dec D_Mod_served rfl) (by decide) ?_
      refine aw_ret_l C r (dec D_Mod_served rfl) (by decide) (by decide) ?_
      refine ⟨?_, ?_⟩ <;> first | with_reducible rfl | (simp [mI_I, mL_I, mA_I, mJ_I, mI_L, mL_L, mA_L, mJ_L, mI_A, mL_A, mA_A, mJ_A, mI_J, mL_J, mA_J, mJ_J, cI_I, cL_I, cA_I, cJ_I, cR_I, cN_I, cI_L, cL_L, cA_L, cJ_L, cR_L, cN_L, cI_A, cL_A, cA_A, cJ_A, cR_A, cN_A, cI_J, cL_J, cA_J, cJ_J, cR_J, cN_J, cI_R, cL_R, cA_R, cJ_R, cR_R, cN_R, cI_N, cL_N, cA_N, cJ_N, cR_N, cN_N, ↓reduceIte, Nat.reduceEqDiff, upd_at, updL_at, h5, h13, mServedR, mServedC]; done) | (simp [mI_I, mL_I, mA_I, mJ_I, mI_L, mL_L, mA_L, mJ_L, mI_A, mL_A, mA_A, mJ_A, mI_J, mL_J, mA_J, mJ_J, cI_I, cL_I, cA_I, cJ_I, cR_I, cN_I, cI_L, cL_L, cA_L, cJ_L, cR_L, cN_L, cI_A, cL_A, cA_A, cJ_A, cR_A, cN_A, cI_J, cL_J, cA_J, cJ_J, cR_J, cN_J, cI_R, cL_R, cA_R, cJ_R, cR_R, cN_R, cI_N, cL_N, cA_N, cJ_N, cR_N, cN_N, ↓reduceIte, Nat.reduceEqDiff, upd_at, updL_at, h5, h13, mServedR, mServedC]; rfl)
    · try simp only [mI_I, mL_I, mA_I, mJ_I, mI_L, mL_L, mA_L, mJ_L, mI_A, mL_A, mA_A, mJ_A, mI_J, mL_J, mA_J, mJ_J, cI_I, cL_I, cA_I, cJ_I, cR_I, cN_I, cI_L, cL_L, cA_L, cJ_L, cR_L, cN_L, cI_A, cL_A, cA_A, cJ_A, cR_A, cN_A, cI_J, cL_J, cA_J, cJ_J, cR_J, cN_J, cI_R, cL_R, cA_R, cJ_R, cR_R, cN_R, cI_N, cL_N, cA_N, cJ_N, cR_N, cN_N, ↓reduceIte, Nat.reduceEqDiff, upd_at, updL_at] at h13
      refine aw_iload_n (i := 1) C (dec D_Mod_served rfl) rfl rfl ?_
      refine aw_aload_n (i := 0) C (dec D_Mod_served rfl) rfl rfl ?_
      refine gf_Mod_105 C (dec D_Mod_served rfl) ?_
      refine aw_icmp_lt (tgt := 28) C (dec D_Mod_served rfl) (by decide) (fun h21 => ?_) (fun h21 => ?_)
      · try simp only [mI_I, mL_I, mA_I, mJ_I, mI_L, mL_L, mA_L, mJ_L, mI_A, mL_A, mA_A, mJ_A, mI_J, mL_J, mA_J, mJ_J, cI_I, cL_I, cA_I, cJ_I, cR_I, cN_I, cI_L, cL_L, cA_L, cJ_L, cR_L, cN_L, cI_A, cL_A, cA_A, cJ_A, cR_A, cN_A, cI_J, cL_J, cA_J, cJ_J, cR_J, cN_J, cI_R, cL_R, cA_R, cJ_R, cR_R, cN_R, cI_N, cL_N, cA_N, cJ_N, cR_N, cN_N, ↓reduceIte, Nat.reduceEqDiff, upd_at, updL_at] at h21
        refine aw_iconst (v := 0) C (dec D_Mod_served rfl) (by decide) ?_
        refine pf_Mod_71 C Fw (dec D_Mod_served rfl) ?_
        refine aw_aload_n (i := 0) C (dec D_Mod_served rfl) rfl rfl ?_
        refine gf_Mod_71 C (dec D_Mod_served rfl) ?_
        refine aw_if_le (tgt := 43) C (dec D_Mod_served rfl) (by decide) (fun _ => ?_) (fun h_ => absurd (show (0 : Int32) ≤ (0 : Int32) by decide) h_)
        obtain ⟨i, hi, rfl⟩ := lt_len hq.1 (by omega) h13 h21
        have ec := nI_clamp (n := i) (by omega)
        refine aw_aload_n (i := 0) C (dec D_Mod_served rfl) rfl rfl ?_
        refine gf_Mod_65 C (dec D_Mod_served rfl) ?_
        refine aw_iload_n (i := 1) C (dec D_Mod_served rfl) rfl rfl ?_
        refine al_M16 C i (dec D_Mod_served rfl) (ix_of (by omega)) ?_
        refine aw_ret_l C r (dec D_Mod_served rfl) (by decide) (by decide) ?_
        refine ⟨?_, ?_⟩ <;> first | with_reducible rfl | (simp [mI_I, mL_I, mA_I, mJ_I, mI_L, mL_L, mA_L, mJ_L, mI_A, mL_A, mA_A, mJ_A, mI_J, mL_J, mA_J, mJ_J, cI_I, cL_I, cA_I, cJ_I, cR_I, cN_I, cI_L, cL_L, cA_L, cJ_L, cR_L, cN_L, cI_A, cL_A, cA_A, cJ_A, cR_A, cN_A, cI_J, cL_J, cA_J, cJ_J, cR_J, cN_J, cI_R, cL_R, cA_R, cJ_R, cR_R, cN_R, cI_N, cL_N, cA_N, cJ_N, cR_N, cN_N, ↓reduceIte, Nat.reduceEqDiff, upd_at, updL_at, h5, h13, h21, ec, mServedR, mServedC]; done) | (simp [mI_I, mL_I, mA_I, mJ_I, mI_L, mL_L, mA_L, mJ_L, mI_A, mL_A, mA_A, mJ_A, mI_J, mL_J, mA_J, mJ_J, cI_I, cL_I, cA_I, cJ_I, cR_I, cN_I, cI_L, cL_L, cA_L, cJ_L, cR_L, cN_L, cI_A, cL_A, cA_A, cJ_A, cR_A, cN_A, cI_J, cL_J, cA_J, cJ_J, cR_J, cN_J, cI_R, cL_R, cA_R, cJ_R, cR_R, cN_R, cI_N, cL_N, cA_N, cJ_N, cR_N, cN_N, ↓reduceIte, Nat.reduceEqDiff, upd_at, updL_at, h5, h13, h21, ec, mServedR, mServedC]; rfl)
      · try simp only [mI_I, mL_I, mA_I, mJ_I, mI_L, mL_L, mA_L, mJ_L, mI_A, mL_A, mA_A, mJ_A, mI_J, mL_J, mA_J, mJ_J, cI_I, cL_I, cA_I, cJ_I, cR_I, cN_I, cI_L, cL_L, cA_L, cJ_L, cR_L, cN_L, cI_A, cL_A, cA_A, cJ_A, cR_A, cN_A, cI_J, cL_J, cA_J, cJ_J, cR_J, cN_J, cI_R, cL_R, cA_R, cJ_R, cR_R, cN_R, cI_N, cL_N, cA_N, cJ_N, cR_N, cN_N, ↓reduceIte, Nat.reduceEqDiff, upd_at, updL_at] at h21
        refine aw_iconst (v := 2) C (dec D_Mod_served rfl) (by decide) ?_
        refine aw_goto (tgt := 29) C (dec D_Mod_served rfl) (by decide) ?_
        refine pf_Mod_71 C Fw (dec D_Mod_served rfl) ?_
        refine aw_aload_n (i := 0) C (dec D_Mod_served rfl) rfl rfl ?_
        refine gf_Mod_71 C (dec D_Mod_served rfl) ?_
        refine aw_if_le (tgt := 43) C (dec D_Mod_served rfl) (by decide) (fun h_ => absurd h_ (show ¬ (2 : Int32) ≤ (0 : Int32) by decide)) (fun _ => ?_)
        refine aw_lconst (v := 0) C (dec D_Mod_served rfl) (by decide) ?_
        refine aw_goto (tgt := 49) C (dec D_Mod_served rfl) (by decide) ?_
        refine aw_ret_l C r (dec D_Mod_served rfl) (by decide) (by decide) ?_
        refine ⟨?_, ?_⟩ <;> first | with_reducible rfl | (simp [mI_I, mL_I, mA_I, mJ_I, mI_L, mL_L, mA_L, mJ_L, mI_A, mL_A, mA_A, mJ_A, mI_J, mL_J, mA_J, mJ_J, cI_I, cL_I, cA_I, cJ_I, cR_I, cN_I, cI_L, cL_L, cA_L, cJ_L, cR_L, cN_L, cI_A, cL_A, cA_A, cJ_A, cR_A, cN_A, cI_J, cL_J, cA_J, cJ_J, cR_J, cN_J, cI_R, cL_R, cA_R, cJ_R, cR_R, cN_R, cI_N, cL_N, cA_N, cJ_N, cR_N, cN_N, ↓reduceIte, Nat.reduceEqDiff, upd_at, updL_at, h5, h13, h21, mServedR, mServedC]; done) | (simp [mI_I, mL_I, mA_I, mJ_I, mI_L, mL_L, mA_L, mJ_L, mI_A, mL_A, mA_A, mJ_A, mI_J, mL_J, mA_J, mJ_J, cI_I, cL_I, cA_I, cJ_I, cR_I, cN_I, cI_L, cL_L, cA_L, cJ_L, cR_L, cN_L, cI_A, cL_A, cA_A, cJ_A, cR_A, cN_A, cI_J, cL_J, cA_J, cJ_J, cR_J, cN_J, cI_R, cL_R, cA_R, cJ_R, cR_R, cN_R, cI_N, cL_N, cA_N, cJ_N, cR_N, cN_N, ↓reduceIte, Nat.reduceEqDiff, upd_at, updL_at, h5, h13, h21, mServedR, mServedC]; rfl)
  · try simp only [mI_I, mL_I, mA_I, mJ_I, mI_L, mL_L, mA_L, mJ_L, mI_A, mL_A, mA_A, mJ_A, mI_J, mL_J, mA_J, mJ_J, cI_I, cL_I, cA_I, cJ_I, cR_I, cN_I, cI_L, cL_L, cA_L, cJ_L, cR_L, cN_L, cI_A, cL_A, cA_A, cJ_A, cR_A, cN_A, cI_J, cL_J, cA_J, cJ_J, cR_J, cN_J, cI_R, cL_R, cA_R, cJ_R, cR_R, cN_R, cI_N, cL_N, cA_N, cJ_N, cR_N, cN_N, ↓reduceIte, Nat.reduceEqDiff, upd_at, updL_at] at h5
    refine aw_iconst (v := 1) C (dec D_Mod_served rfl) (by decide) ?_
    refine aw_goto (tgt := 29) C (dec D_Mod_served rfl) (by decide) ?_
    refine pf_Mod_71 C Fw (dec D_Mod_served rfl) ?_
    refine aw_aload_n (i := 0) C (dec D_Mod_served rfl) rfl rfl ?_
    refine gf_Mod_71 C (dec D_Mod_served rfl) ?_
    refine aw_if_le (tgt := 43) C (dec D_Mod_served rfl) (by decide) (fun h_ => absurd h_ (show ¬ (1 : Int32) ≤ (0 : Int32) by decide)) (fun _ => ?_)
    refine aw_lconst (v := 0) C (dec D_Mod_served rfl) (by decide) ?_
    refine aw_goto (tgt := 49) C (dec D_Mod_served rfl) (by decide) ?_
    refine aw_ret_l C r (dec D_Mod_served rfl) (by decide) (by decide) ?_
    refine ⟨?_, ?_⟩ <;> first | with_reducible rfl | (simp [mI_I, mL_I, mA_I, mJ_I, mI_L, mL_L, mA_L, mJ_L, mI_A, mL_A, mA_A, mJ_A, mI_J, mL_J, mA_J, mJ_J, cI_I, cL_I, cA_I, cJ_I, cR_I, cN_I, cI_L, cL_L, cA_L, cJ_L, cR_L, cN_L, cI_A, cL_A, cA_A, cJ_A, cR_A, cN_A, cI_J, cL_J, cA_J, cJ_J, cR_J, cN_J, cI_R, cL_R, cA_R, cJ_R, cR_R, cN_R, cI_N, cL_N, cA_N, cJ_N, cR_N, cN_N, ↓reduceIte, Nat.reduceEqDiff, upd_at, updL_at, h5, mServedR, mServedC]; done) | (simp [mI_I, mL_I, mA_I, mJ_I, mI_L, mL_L, mA_L, mJ_L, mI_A, mL_A, mA_A, mJ_A, mI_J, mL_J, mA_J, mJ_J, cI_I, cL_I, cA_I, cJ_I, cR_I, cN_I, cI_L, cL_L, cA_L, cJ_L, cR_L, cN_L, cI_A, cL_A, cA_A, cJ_A, cR_A, cN_A, cI_J, cL_J, cA_J, cJ_J, cR_J, cN_J, cI_R, cL_R, cA_R, cJ_R, cR_R, cN_R, cI_N, cL_N, cA_N, cJ_N, cR_N, cN_N, ↓reduceIte, Nat.reduceEqDiff, upd_at, updL_at, h5, mServedR, mServedC]; rfl)
theorem c_Mod_shorten (l : Launch) (G : GG) (a : AD) (c : CC) (m : MM) (o : OO) (f k : Nat) (L : Nat → Nat) (hf : f < 8) (hk : k ≤ L f) (hL : MLn m L) : CT l G y_Mod_shorten (.code y_Mod_shorten b_Mod_shorten 6 (some .int)) 1 0 0 (Fyes G) (wld G a c m o) [.ref (a 30 0), .int (nI f), .int (nI k)] (fun r w2 => r = .inl (some (.int (nI (pg (L f) - pg k)))) ∧ w2 = wld G a c (mShorten m L f k) o) := by
  refine CT.of (by decide) (Nat.le_of_ble_eq_true rfl) rfl ?_
  intro E hl hG hF C r hw hex hnm
  subst hl; subst hG
  have Fw : Cw E := fun a h => by rw [hF]; exact h
  have hl1 := (hL f hf).2
  have hpg := pg_le hl1
  have hpk : pg k ≤ pg (L f) := by unfold pg; omega
  have lp : ∀ (n t : Nat) , (pg (L f)) - t < n → t ≤ (pg (L f)) → pg k ≤ t → AW E false 0 0 (wld (eG E) a c (mShN m f (pg k) (t - pg k)) o) 20 [(0, .ref (a 30 0)), (1, .int (nI f)), (2, .int (nI k)), (3, .int (nI (pg k))), (4, .int (nI (pg (L f) - pg k))), (5, .int (nI t))] [] := by
    intro n
    induction n with
    | zero => intro t  h1 h2 h0; omega
    | succ n ih =>
      intro t  h1t h2t h0t
      refine aw_iload C (dec D_Mod_shorten rfl) rfl ?_
      refine aw_aload_n (i := 0) C (dec D_Mod_shorten rfl) rfl rfl ?_
      refine aw_iload_n (i := 1) C (dec D_Mod_shorten rfl) rfl rfl ?_
      have hLi : MLn (mShN m f (pg k) (t - pg k)) L := hL.of (mShN_A _ _ _ (by decide) (by decide) _)
      refine aw_cv C ci_Mod_122 [_] (c_Mod_pages _ _ _ _ _ _ f hf) (dec D_Mod_shorten rfl) rcM rfl fpP (Nat.le_of_ble_eq_true rfl) (by decide) ⟨by decide, by decide⟩ (fun v w2 hp => ?_) (fun _ _ h => by cases h.1)
      obtain ⟨hv, rfl⟩ := hp
      cases hv
      rw [pgE (hLi f hf).1 (hLi f hf).2]
      refine aw_icmp_ge (tgt := 71) C (dec D_Mod_shorten rfl) (by decide) (fun hb => ?_) (fun hb => ?_)
      · try simp only [mI_I, mL_I, mA_I, mJ_I, mI_L, mL_L, mA_L, mJ_L, mI_A, mL_A, mA_A, mJ_A, mI_J, mL_J, mA_J, mJ_J, cI_I, cL_I, cA_I, cJ_I, cR_I, cN_I, cI_L, cL_L, cA_L, cJ_L, cR_L, cN_L, cI_A, cL_A, cA_A, cJ_A, cR_A, cN_A, cI_J, cL_J, cA_J, cJ_J, cR_J, cN_J, cI_R, cL_R, cA_R, cJ_R, cR_R, cN_R, cI_N, cL_N, cA_N, cJ_N, cR_N, cN_N, ↓reduceIte, Nat.reduceEqDiff, upd_at, updL_at] at hb
        have e9 : t = (pg (L f)) := by have := ix_ge (N := (pg (L f))) hb; omega
        subst e9
        refine aw_aload_n (i := 0) C (dec D_Mod_shorten rfl) rfl rfl ?_
        refine gf_Mod_29 C (dec D_Mod_shorten rfl) ?_
        refine aw_iload_n (i := 1) C (dec D_Mod_shorten rfl) rfl rfl ?_
        refine aw_iload_n (i := 2) C (dec D_Mod_shorten rfl) rfl rfl ?_
        refine as_M4 C Fw f (dec D_Mod_shorten rfl) (ix_of hf) ?_
        refine aw_iload C (dec D_Mod_shorten rfl) rfl ?_
        refine aw_ret_i C r (dec D_Mod_shorten rfl) rfl (by decide) (by decide) ?_
        exact ⟨rfl, rfl⟩
      · try simp only [mI_I, mL_I, mA_I, mJ_I, mI_L, mL_L, mA_L, mJ_L, mI_A, mL_A, mA_A, mJ_A, mI_J, mL_J, mA_J, mJ_J, cI_I, cL_I, cA_I, cJ_I, cR_I, cN_I, cI_L, cL_L, cA_L, cJ_L, cR_L, cN_L, cI_A, cL_A, cA_A, cJ_A, cR_A, cN_A, cI_J, cL_J, cA_J, cJ_J, cR_J, cN_J, cI_R, cL_R, cA_R, cJ_R, cR_R, cN_R, cI_N, cL_N, cA_N, cJ_N, cR_N, cN_N, ↓reduceIte, Nat.reduceEqDiff, upd_at, updL_at] at hb
        have htt : t < (pg (L f)) := ix_lt (N := (pg (L f))) hb
        obtain ⟨j, rfl⟩ : ∃ j, t = pg k + j := ⟨t - pg k, by omega⟩
        have ej : pg k + j - pg k = j := by omega
        have ej1 : pg k + j + 1 - pg k = j + 1 := by omega
        have k9 := ih (pg k + j + 1) (by omega) (by omega) (by omega)
        rw [ej1, mShN] at k9
        rw [ej] at hLi ⊢
        refine aw_aload_n (i := 0) C (dec D_Mod_shorten rfl) rfl rfl ?_
        refine gf_Mod_35 C (dec D_Mod_shorten rfl) ?_
        refine aw_iload_n (i := 1) C (dec D_Mod_shorten rfl) rfl rfl ?_
        refine al_M6 C f (dec D_Mod_shorten rfl) (ix_of hf) ?_
        refine aw_aload_n (i := 0) C (dec D_Mod_shorten rfl) rfl rfl ?_
        refine gf_Mod_32 C (dec D_Mod_shorten rfl) ?_
        refine aw_bipush (v := 64) C (dec D_Mod_shorten rfl) (by decide) ?_
        refine aw_iload_n (i := 1) C (dec D_Mod_shorten rfl) rfl rfl ?_
        refine aw_imul C (dec D_Mod_shorten rfl) ?_
        refine aw_iload C (dec D_Mod_shorten rfl) rfl ?_
        refine aw_iadd C (dec D_Mod_shorten rfl) ?_
        refine al_M5 C (64 * f + (pg k + j)) (dec D_Mod_shorten rfl) (ix_eq (nI_ch f (pg k + j)) (by omega)) ?_
        refine aw_icmp_ne (tgt := 65) C (dec D_Mod_shorten rfl) (by decide) (fun h48 => ?_) (fun h48 => ?_)
        · refine aw_iinc C (dec D_Mod_shorten rfl) rfl (nI_inc (pg k + j)) (by decide) ?_
          refine aw_goto (tgt := 20) C (dec D_Mod_shorten rfl) (by decide) ?_
          rw [if_neg h48] at k9
          exact AW.impure k9
        · refine aw_aload_n (i := 0) C (dec D_Mod_shorten rfl) rfl rfl ?_
          refine gf_Mod_35 C (dec D_Mod_shorten rfl) ?_
          refine aw_iload_n (i := 1) C (dec D_Mod_shorten rfl) rfl rfl ?_
          refine aw_iconst (v := (-1)) C (dec D_Mod_shorten rfl) (by decide) ?_
          refine as_M6 C Fw f (dec D_Mod_shorten rfl) (ix_of hf) ?_
          refine aw_aload_n (i := 0) C (dec D_Mod_shorten rfl) rfl rfl ?_
          refine gf_Mod_41 C (dec D_Mod_shorten rfl) ?_
          refine aw_iload_n (i := 1) C (dec D_Mod_shorten rfl) rfl rfl ?_
          refine aw_iconst (v := 0) C (dec D_Mod_shorten rfl) (by decide) ?_
          refine as_M8 C Fw f bz0 (dec D_Mod_shorten rfl) (ix_of hf) ?_
          refine aw_iinc C (dec D_Mod_shorten rfl) rfl (nI_inc (pg k + j)) (by decide) ?_
          refine aw_goto (tgt := 20) C (dec D_Mod_shorten rfl) (by decide) ?_
          rw [if_pos h48] at k9
          exact k9
  refine aw_iload_n (i := 2) C (dec D_Mod_shorten rfl) rfl rfl ?_
  refine aw_bipush (v := 7) C (dec D_Mod_shorten rfl) (by decide) ?_
  refine aw_iadd C (dec D_Mod_shorten rfl) ?_
  refine aw_bipush (v := 8) C (dec D_Mod_shorten rfl) (by decide) ?_
  refine aw_idiv C (dec D_Mod_shorten rfl) (by decide) ?_
  rw [pgE rfl (show k ≤ 488 by omega)]
  refine aw_istore_n (i := 3) C (dec D_Mod_shorten rfl) rfl (by decide) ?_
  refine aw_aload_n (i := 0) C (dec D_Mod_shorten rfl) rfl rfl ?_
  refine aw_iload_n (i := 1) C (dec D_Mod_shorten rfl) rfl rfl ?_
  refine aw_cv C ci_Mod_122 [_] (c_Mod_pages _ _ _ _ _ _ f hf) (dec D_Mod_shorten rfl) rcM rfl fpP (Nat.le_of_ble_eq_true rfl) (by decide) ⟨by decide, by decide⟩ (fun v w2 hp => ?_) (fun _ _ h => by cases h.1)
  obtain ⟨hv, rfl⟩ := hp
  cases hv
  rw [pgE (hL f hf).1 (hL f hf).2]
  refine aw_iload_n (i := 3) C (dec D_Mod_shorten rfl) rfl rfl ?_
  refine aw_isub C (dec D_Mod_shorten rfl) ?_
  rw [pk_sub hpk]
  refine aw_istore C (dec D_Mod_shorten rfl) (by decide) ?_
  refine aw_iload_n (i := 3) C (dec D_Mod_shorten rfl) rfl rfl ?_
  refine aw_istore C (dec D_Mod_shorten rfl) (by decide) ?_
  have k9 := lp (pg (L f) + 1) (pg k) (by omega) hpk (by omega)
  rw [Nat.sub_self] at k9; exact AW.impure k9
theorem c_Mod_truncate (l : Launch) (G : GG) (a : AD) (c : CC) (m : MM) (o : OO) (x y : Int32) (L : Nat → Nat) (hL : MLn m L) : CT l G y_Mod_truncate (.code y_Mod_truncate b_Mod_truncate 3 (some .int)) 2 0 0 (Fyes G) (wld G a c m o) [.ref (a 30 0), .int x, .int y] (fun r w2 => r = .inl (some (.int (mTruncR m L x y))) ∧ w2 = wld G a c (mTrunc m L x y) o) := by
  refine CT.of (by decide) (Nat.le_of_ble_eq_true rfl) rfl ?_
  intro E hl hG hF C r hw hex hnm
  subst hl; subst hG
  have Fw : Cw E := fun a h => by rw [hF]; exact h
  refine aw_aload_n (i := 0) C (dec D_Mod_truncate rfl) rfl rfl ?_
  refine aw_aload_n (i := 0) C (dec D_Mod_truncate rfl) rfl rfl ?_
  refine aw_cv C ci_Mod_160 [] (c_Mod_isReady _ _ _ _ _ _) (dec D_Mod_truncate rfl) rcM rfl fpP (Nat.le_of_ble_eq_true rfl) (by decide) ⟨by decide, by decide⟩ (fun v w2 hp => ?_) (fun _ _ h => by cases h.1)
  obtain ⟨hv, rfl⟩ := hp
  cases hv
  refine aw_if_ne (tgt := 12) C (dec D_Mod_truncate rfl) (by decide) (fun h5 => ?_) (fun h5 => ?_)
  · try simp only [mI_I, mL_I, mA_I, mJ_I, mI_L, mL_L, mA_L, mJ_L, mI_A, mL_A, mA_A, mJ_A, mI_J, mL_J, mA_J, mJ_J, cI_I, cL_I, cA_I, cJ_I, cR_I, cN_I, cI_L, cL_L, cA_L, cJ_L, cR_L, cN_L, cI_A, cL_A, cA_A, cJ_A, cR_A, cN_A, cI_J, cL_J, cA_J, cJ_J, cR_J, cN_J, cI_R, cL_R, cA_R, cJ_R, cR_R, cN_R, cI_N, cL_N, cA_N, cJ_N, cR_N, cN_N, ↓reduceIte, Nat.reduceEqDiff, upd_at, updL_at] at h5
    refine aw_aload_n (i := 0) C (dec D_Mod_truncate rfl) rfl rfl ?_
    refine aw_iload_n (i := 1) C (dec D_Mod_truncate rfl) rfl rfl ?_
    refine aw_cv C ci_Mod_166 [_] (c_Mod_isFile _ _ _ _ _ _ _) (dec D_Mod_truncate rfl) rcM rfl fpP (Nat.le_of_ble_eq_true rfl) (by decide) ⟨by decide, by decide⟩ (fun v w2 hp => ?_) (fun _ _ h => by cases h.1)
    obtain ⟨hv, rfl⟩ := hp
    cases hv
    refine aw_if_eq (tgt := 34) C (dec D_Mod_truncate rfl) (by decide) (fun h17 => ?_) (fun h17 => ?_)
    · try simp only [mI_I, mL_I, mA_I, mJ_I, mI_L, mL_L, mA_L, mJ_L, mI_A, mL_A, mA_A, mJ_A, mI_J, mL_J, mA_J, mJ_J, cI_I, cL_I, cA_I, cJ_I, cR_I, cN_I, cI_L, cL_L, cA_L, cJ_L, cR_L, cN_L, cI_A, cL_A, cA_A, cJ_A, cR_A, cN_A, cI_J, cL_J, cA_J, cJ_J, cR_J, cN_J, cI_R, cL_R, cA_R, cJ_R, cR_R, cN_R, cI_N, cL_N, cA_N, cJ_N, cR_N, cN_N, ↓reduceIte, Nat.reduceEqDiff, upd_at, updL_at] at h17
      refine aw_iconst (v := 2) C (dec D_Mod_truncate rfl) (by decide) ?_
      refine aw_goto (tgt := 39) C (dec D_Mod_truncate rfl) (by decide) ?_
      refine pf_Mod_71 C Fw (dec D_Mod_truncate rfl) ?_
      refine aw_aload_n (i := 0) C (dec D_Mod_truncate rfl) rfl rfl ?_
      refine gf_Mod_71 C (dec D_Mod_truncate rfl) ?_
      refine aw_if_le (tgt := 53) C (dec D_Mod_truncate rfl) (by decide) (fun h_ => absurd h_ (show ¬ (2 : Int32) ≤ (0 : Int32) by decide)) (fun _ => ?_)
      refine aw_iconst (v := 0) C (dec D_Mod_truncate rfl) (by decide) ?_
      refine aw_goto (tgt := 59) C (dec D_Mod_truncate rfl) (by decide) ?_
      refine aw_ret_i C r (dec D_Mod_truncate rfl) rfl (by decide) (by decide) ?_
      refine ⟨?_, ?_⟩ <;> first | with_reducible rfl | (simp [mI_I, mL_I, mA_I, mJ_I, mI_L, mL_L, mA_L, mJ_L, mI_A, mL_A, mA_A, mJ_A, mI_J, mL_J, mA_J, mJ_J, cI_I, cL_I, cA_I, cJ_I, cR_I, cN_I, cI_L, cL_L, cA_L, cJ_L, cR_L, cN_L, cI_A, cL_A, cA_A, cJ_A, cR_A, cN_A, cI_J, cL_J, cA_J, cJ_J, cR_J, cN_J, cI_R, cL_R, cA_R, cJ_R, cR_R, cN_R, cI_N, cL_N, cA_N, cJ_N, cR_N, cN_N, ↓reduceIte, Nat.reduceEqDiff, upd_at, updL_at, h5, h17, mTruncR, mTrunc, mTruncC]; done) | (simp [mI_I, mL_I, mA_I, mJ_I, mI_L, mL_L, mA_L, mJ_L, mI_A, mL_A, mA_A, mJ_A, mI_J, mL_J, mA_J, mJ_J, cI_I, cL_I, cA_I, cJ_I, cR_I, cN_I, cI_L, cL_L, cA_L, cJ_L, cR_L, cN_L, cI_A, cL_A, cA_A, cJ_A, cR_A, cN_A, cI_J, cL_J, cA_J, cJ_J, cR_J, cN_J, cI_R, cL_R, cA_R, cJ_R, cR_R, cN_R, cI_N, cL_N, cA_N, cJ_N, cR_N, cN_N, ↓reduceIte, Nat.reduceEqDiff, upd_at, updL_at, h5, h17, mTruncR, mTrunc, mTruncC]; rfl)
    · try simp only [mI_I, mL_I, mA_I, mJ_I, mI_L, mL_L, mA_L, mJ_L, mI_A, mL_A, mA_A, mJ_A, mI_J, mL_J, mA_J, mJ_J, cI_I, cL_I, cA_I, cJ_I, cR_I, cN_I, cI_L, cL_L, cA_L, cJ_L, cR_L, cN_L, cI_A, cL_A, cA_A, cJ_A, cR_A, cN_A, cI_J, cL_J, cA_J, cJ_J, cR_J, cN_J, cI_R, cL_R, cA_R, cJ_R, cR_R, cN_R, cI_N, cL_N, cA_N, cJ_N, cR_N, cN_N, ↓reduceIte, Nat.reduceEqDiff, upd_at, updL_at] at h17
      obtain ⟨t, ht, rfl, hnm⟩ := mIsFile_rng h17
      have ec := nI_clamp (n := t) (by omega)
      refine aw_iload_n (i := 2) C (dec D_Mod_truncate rfl) rfl rfl ?_
      refine aw_if_lt (tgt := 34) C (dec D_Mod_truncate rfl) (by decide) (fun h21 => ?_) (fun h21 => ?_)
      · try simp only [mI_I, mL_I, mA_I, mJ_I, mI_L, mL_L, mA_L, mJ_L, mI_A, mL_A, mA_A, mJ_A, mI_J, mL_J, mA_J, mJ_J, cI_I, cL_I, cA_I, cJ_I, cR_I, cN_I, cI_L, cL_L, cA_L, cJ_L, cR_L, cN_L, cI_A, cL_A, cA_A, cJ_A, cR_A, cN_A, cI_J, cL_J, cA_J, cJ_J, cR_J, cN_J, cI_R, cL_R, cA_R, cJ_R, cR_R, cN_R, cI_N, cL_N, cA_N, cJ_N, cR_N, cN_N, ↓reduceIte, Nat.reduceEqDiff, upd_at, updL_at] at h21
        refine aw_iconst (v := 2) C (dec D_Mod_truncate rfl) (by decide) ?_
        refine aw_goto (tgt := 39) C (dec D_Mod_truncate rfl) (by decide) ?_
        refine pf_Mod_71 C Fw (dec D_Mod_truncate rfl) ?_
        refine aw_aload_n (i := 0) C (dec D_Mod_truncate rfl) rfl rfl ?_
        refine gf_Mod_71 C (dec D_Mod_truncate rfl) ?_
        refine aw_if_le (tgt := 53) C (dec D_Mod_truncate rfl) (by decide) (fun h_ => absurd h_ (show ¬ (2 : Int32) ≤ (0 : Int32) by decide)) (fun _ => ?_)
        refine aw_iconst (v := 0) C (dec D_Mod_truncate rfl) (by decide) ?_
        refine aw_goto (tgt := 59) C (dec D_Mod_truncate rfl) (by decide) ?_
        refine aw_ret_i C r (dec D_Mod_truncate rfl) rfl (by decide) (by decide) ?_
        refine ⟨?_, ?_⟩ <;> first | with_reducible rfl | (simp [mI_I, mL_I, mA_I, mJ_I, mI_L, mL_L, mA_L, mJ_L, mI_A, mL_A, mA_A, mJ_A, mI_J, mL_J, mA_J, mJ_J, cI_I, cL_I, cA_I, cJ_I, cR_I, cN_I, cI_L, cL_L, cA_L, cJ_L, cR_L, cN_L, cI_A, cL_A, cA_A, cJ_A, cR_A, cN_A, cI_J, cL_J, cA_J, cJ_J, cR_J, cN_J, cI_R, cL_R, cA_R, cJ_R, cR_R, cN_R, cI_N, cL_N, cA_N, cJ_N, cR_N, cN_N, ↓reduceIte, Nat.reduceEqDiff, upd_at, updL_at, h5, h17, ec, h21, mTruncR, mTrunc, mTruncC]; done) | (simp [mI_I, mL_I, mA_I, mJ_I, mI_L, mL_L, mA_L, mJ_L, mI_A, mL_A, mA_A, mJ_A, mI_J, mL_J, mA_J, mJ_J, cI_I, cL_I, cA_I, cJ_I, cR_I, cN_I, cI_L, cL_L, cA_L, cJ_L, cR_L, cN_L, cI_A, cL_A, cA_A, cJ_A, cR_A, cN_A, cI_J, cL_J, cA_J, cJ_J, cR_J, cN_J, cI_R, cL_R, cA_R, cJ_R, cR_R, cN_R, cI_N, cL_N, cA_N, cJ_N, cR_N, cN_N, ↓reduceIte, Nat.reduceEqDiff, upd_at, updL_at, h5, h17, ec, h21, mTruncR, mTrunc, mTruncC]; rfl)
      · try simp only [mI_I, mL_I, mA_I, mJ_I, mI_L, mL_L, mA_L, mJ_L, mI_A, mL_A, mA_A, mJ_A, mI_J, mL_J, mA_J, mJ_J, cI_I, cL_I, cA_I, cJ_I, cR_I, cN_I, cI_L, cL_L, cA_L, cJ_L, cR_L, cN_L, cI_A, cL_A, cA_A, cJ_A, cR_A, cN_A, cI_J, cL_J, cA_J, cJ_J, cR_J, cN_J, cI_R, cL_R, cA_R, cJ_R, cR_R, cN_R, cI_N, cL_N, cA_N, cJ_N, cR_N, cN_N, ↓reduceIte, Nat.reduceEqDiff, upd_at, updL_at] at h21
        refine aw_iload_n (i := 2) C (dec D_Mod_truncate rfl) rfl rfl ?_
        refine aw_aload_n (i := 0) C (dec D_Mod_truncate rfl) rfl rfl ?_
        refine gf_Mod_29 C (dec D_Mod_truncate rfl) ?_
        refine aw_iload_n (i := 1) C (dec D_Mod_truncate rfl) rfl rfl ?_
        refine al_M4 C t (dec D_Mod_truncate rfl) (ix_of ht) ?_
        refine aw_icmp_le (tgt := 38) C (dec D_Mod_truncate rfl) (by decide) (fun h31 => ?_) (fun h31 => ?_)
        · try simp only [mI_I, mL_I, mA_I, mJ_I, mI_L, mL_L, mA_L, mJ_L, mI_A, mL_A, mA_A, mJ_A, mI_J, mL_J, mA_J, mJ_J, cI_I, cL_I, cA_I, cJ_I, cR_I, cN_I, cI_L, cL_L, cA_L, cJ_L, cR_L, cN_L, cI_A, cL_A, cA_A, cJ_A, cR_A, cN_A, cI_J, cL_J, cA_J, cJ_J, cR_J, cN_J, cI_R, cL_R, cA_R, cJ_R, cR_R, cN_R, cI_N, cL_N, cA_N, cJ_N, cR_N, cN_N, ↓reduceIte, Nat.reduceEqDiff, upd_at, updL_at] at h31
          refine aw_iconst (v := 0) C (dec D_Mod_truncate rfl) (by decide) ?_
          refine pf_Mod_71 C Fw (dec D_Mod_truncate rfl) ?_
          refine aw_aload_n (i := 0) C (dec D_Mod_truncate rfl) rfl rfl ?_
          refine gf_Mod_71 C (dec D_Mod_truncate rfl) ?_
          refine aw_if_le (tgt := 53) C (dec D_Mod_truncate rfl) (by decide) (fun _ => ?_) (fun h_ => absurd (show (0 : Int32) ≤ (0 : Int32) by decide) h_)
          obtain ⟨i, hi, rfl⟩ := le_len (hL t ht).1 (hL t ht).2 h21 h31
          have hl1 := (hL t ht).2
          have ei := nI_clamp (n := i) (by omega)
          refine aw_aload_n (i := 0) C (dec D_Mod_truncate rfl) rfl rfl ?_
          refine aw_iload_n (i := 1) C (dec D_Mod_truncate rfl) rfl rfl ?_
          refine aw_iload_n (i := 2) C (dec D_Mod_truncate rfl) rfl rfl ?_
          refine aw_cv C ci_Mod_185 [_, _] (c_Mod_shorten _ _ _ _ _ _ t i L ht hi (hL.of rfl)) (dec D_Mod_truncate rfl) rcM rfl (fpW Fw) (Nat.le_of_ble_eq_true rfl) (by decide) ⟨by decide, by decide⟩ (fun v w2 hp => ?_) (fun _ _ h => by cases h.1)
          obtain ⟨hv, rfl⟩ := hp
          cases hv
          refine aw_ret_i C r (dec D_Mod_truncate rfl) rfl (by decide) (by decide) ?_
          refine ⟨?_, ?_⟩ <;> first | with_reducible rfl | (simp [mI_I, mL_I, mA_I, mJ_I, mI_L, mL_L, mA_L, mJ_L, mI_A, mL_A, mA_A, mJ_A, mI_J, mL_J, mA_J, mJ_J, cI_I, cL_I, cA_I, cJ_I, cR_I, cN_I, cI_L, cL_L, cA_L, cJ_L, cR_L, cN_L, cI_A, cL_A, cA_A, cJ_A, cR_A, cN_A, cI_J, cL_J, cA_J, cJ_J, cR_J, cN_J, cI_R, cL_R, cA_R, cJ_R, cR_R, cN_R, cI_N, cL_N, cA_N, cJ_N, cR_N, cN_N, ↓reduceIte, Nat.reduceEqDiff, upd_at, updL_at, h5, h17, ec, h21, h31, ei, mTruncR, mTrunc, mTruncC]; done) | (simp [mI_I, mL_I, mA_I, mJ_I, mI_L, mL_L, mA_L, mJ_L, mI_A, mL_A, mA_A, mJ_A, mI_J, mL_J, mA_J, mJ_J, cI_I, cL_I, cA_I, cJ_I, cR_I, cN_I, cI_L, cL_L, cA_L, cJ_L, cR_L, cN_L, cI_A, cL_A, cA_A, cJ_A, cR_A, cN_A, cI_J, cL_J, cA_J, cJ_J, cR_J, cN_J, cI_R, cL_R, cA_R, cJ_R, cR_R, cN_R, cI_N, cL_N, cA_N, cJ_N, cR_N, cN_N, ↓reduceIte, Nat.reduceEqDiff, upd_at, updL_at, h5, h17, ec, h21, h31, ei, mTruncR, mTrunc, mTruncC]; rfl)
        · try simp only [mI_I, mL_I, mA_I, mJ_I, mI_L, mL_L, mA_L, mJ_L, mI_A, mL_A, mA_A, mJ_A, mI_J, mL_J, mA_J, mJ_J, cI_I, cL_I, cA_I, cJ_I, cR_I, cN_I, cI_L, cL_L, cA_L, cJ_L, cR_L, cN_L, cI_A, cL_A, cA_A, cJ_A, cR_A, cN_A, cI_J, cL_J, cA_J, cJ_J, cR_J, cN_J, cI_R, cL_R, cA_R, cJ_R, cR_R, cN_R, cI_N, cL_N, cA_N, cJ_N, cR_N, cN_N, ↓reduceIte, Nat.reduceEqDiff, upd_at, updL_at] at h31
          refine aw_iconst (v := 2) C (dec D_Mod_truncate rfl) (by decide) ?_
          refine aw_goto (tgt := 39) C (dec D_Mod_truncate rfl) (by decide) ?_
          refine pf_Mod_71 C Fw (dec D_Mod_truncate rfl) ?_
          refine aw_aload_n (i := 0) C (dec D_Mod_truncate rfl) rfl rfl ?_
          refine gf_Mod_71 C (dec D_Mod_truncate rfl) ?_
          refine aw_if_le (tgt := 53) C (dec D_Mod_truncate rfl) (by decide) (fun h_ => absurd h_ (show ¬ (2 : Int32) ≤ (0 : Int32) by decide)) (fun _ => ?_)
          refine aw_iconst (v := 0) C (dec D_Mod_truncate rfl) (by decide) ?_
          refine aw_goto (tgt := 59) C (dec D_Mod_truncate rfl) (by decide) ?_
          refine aw_ret_i C r (dec D_Mod_truncate rfl) rfl (by decide) (by decide) ?_
          refine ⟨?_, ?_⟩ <;> first | with_reducible rfl | (simp [mI_I, mL_I, mA_I, mJ_I, mI_L, mL_L, mA_L, mJ_L, mI_A, mL_A, mA_A, mJ_A, mI_J, mL_J, mA_J, mJ_J, cI_I, cL_I, cA_I, cJ_I, cR_I, cN_I, cI_L, cL_L, cA_L, cJ_L, cR_L, cN_L, cI_A, cL_A, cA_A, cJ_A, cR_A, cN_A, cI_J, cL_J, cA_J, cJ_J, cR_J, cN_J, cI_R, cL_R, cA_R, cJ_R, cR_R, cN_R, cI_N, cL_N, cA_N, cJ_N, cR_N, cN_N, ↓reduceIte, Nat.reduceEqDiff, upd_at, updL_at, h5, h17, ec, h21, h31, mTruncR, mTrunc, mTruncC]; done) | (simp [mI_I, mL_I, mA_I, mJ_I, mI_L, mL_L, mA_L, mJ_L, mI_A, mL_A, mA_A, mJ_A, mI_J, mL_J, mA_J, mJ_J, cI_I, cL_I, cA_I, cJ_I, cR_I, cN_I, cI_L, cL_L, cA_L, cJ_L, cR_L, cN_L, cI_A, cL_A, cA_A, cJ_A, cR_A, cN_A, cI_J, cL_J, cA_J, cJ_J, cR_J, cN_J, cI_R, cL_R, cA_R, cJ_R, cR_R, cN_R, cI_N, cL_N, cA_N, cJ_N, cR_N, cN_N, ↓reduceIte, Nat.reduceEqDiff, upd_at, updL_at, h5, h17, ec, h21, h31, mTruncR, mTrunc, mTruncC]; rfl)
  · try simp only [mI_I, mL_I, mA_I, mJ_I, mI_L, mL_L, mA_L, mJ_L, mI_A, mL_A, mA_A, mJ_A, mI_J, mL_J, mA_J, mJ_J, cI_I, cL_I, cA_I, cJ_I, cR_I, cN_I, cI_L, cL_L, cA_L, cJ_L, cR_L, cN_L, cI_A, cL_A, cA_A, cJ_A, cR_A, cN_A, cI_J, cL_J, cA_J, cJ_J, cR_J, cN_J, cI_R, cL_R, cA_R, cJ_R, cR_R, cN_R, cI_N, cL_N, cA_N, cJ_N, cR_N, cN_N, ↓reduceIte, Nat.reduceEqDiff, upd_at, updL_at] at h5
    refine aw_iconst (v := 1) C (dec D_Mod_truncate rfl) (by decide) ?_
    refine aw_goto (tgt := 39) C (dec D_Mod_truncate rfl) (by decide) ?_
    refine pf_Mod_71 C Fw (dec D_Mod_truncate rfl) ?_
    refine aw_aload_n (i := 0) C (dec D_Mod_truncate rfl) rfl rfl ?_
    refine gf_Mod_71 C (dec D_Mod_truncate rfl) ?_
    refine aw_if_le (tgt := 53) C (dec D_Mod_truncate rfl) (by decide) (fun h_ => absurd h_ (show ¬ (1 : Int32) ≤ (0 : Int32) by decide)) (fun _ => ?_)
    refine aw_iconst (v := 0) C (dec D_Mod_truncate rfl) (by decide) ?_
    refine aw_goto (tgt := 59) C (dec D_Mod_truncate rfl) (by decide) ?_
    refine aw_ret_i C r (dec D_Mod_truncate rfl) rfl (by decide) (by decide) ?_
    refine ⟨?_, ?_⟩ <;> first | with_reducible rfl | (simp [mI_I, mL_I, mA_I, mJ_I, mI_L, mL_L, mA_L, mJ_L, mI_A, mL_A, mA_A, mJ_A, mI_J, mL_J, mA_J, mJ_J, cI_I, cL_I, cA_I, cJ_I, cR_I, cN_I, cI_L, cL_L, cA_L, cJ_L, cR_L, cN_L, cI_A, cL_A, cA_A, cJ_A, cR_A, cN_A, cI_J, cL_J, cA_J, cJ_J, cR_J, cN_J, cI_R, cL_R, cA_R, cJ_R, cR_R, cN_R, cI_N, cL_N, cA_N, cJ_N, cR_N, cN_N, ↓reduceIte, Nat.reduceEqDiff, upd_at, updL_at, h5, mTruncR, mTrunc, mTruncC]; done) | (simp [mI_I, mL_I, mA_I, mJ_I, mI_L, mL_L, mA_L, mJ_L, mI_A, mL_A, mA_A, mJ_A, mI_J, mL_J, mA_J, mJ_J, cI_I, cL_I, cA_I, cJ_I, cR_I, cN_I, cI_L, cL_L, cA_L, cJ_L, cR_L, cN_L, cI_A, cL_A, cA_A, cJ_A, cR_A, cN_A, cI_J, cL_J, cA_J, cJ_J, cR_J, cN_J, cI_R, cL_R, cA_R, cJ_R, cR_R, cN_R, cI_N, cL_N, cA_N, cJ_N, cR_N, cN_N, ↓reduceIte, Nat.reduceEqDiff, upd_at, updL_at, h5, mTruncR, mTrunc, mTruncC]; rfl)
theorem c_Mod_remove (l : Launch) (G : GG) (a : AD) (c : CC) (m : MM) (o : OO) (x : Int32) (L : Nat → Nat) (hL : MLn m L) : CT l G y_Mod_remove (.code y_Mod_remove b_Mod_remove 3 (some .int)) 2 0 0 (Fyes G) (wld G a c m o) [.ref (a 30 0), .int x] (fun r w2 => r = .inl (some (.int (mRemoveR m L x))) ∧ w2 = wld G a c (mRemove m L x) o) := by
  refine CT.of (by decide) (Nat.le_of_ble_eq_true rfl) rfl ?_
  intro E hl hG hF C r hw hex hnm
  subst hl; subst hG
  have Fw : Cw E := fun a h => by rw [hF]; exact h
  refine aw_aload_n (i := 0) C (dec D_Mod_remove rfl) rfl rfl ?_
  refine aw_aload_n (i := 0) C (dec D_Mod_remove rfl) rfl rfl ?_
  refine aw_cv C ci_Mod_160 [] (c_Mod_isReady _ _ _ _ _ _) (dec D_Mod_remove rfl) rcM rfl fpP (Nat.le_of_ble_eq_true rfl) (by decide) ⟨by decide, by decide⟩ (fun v w2 hp => ?_) (fun _ _ h => by cases h.1)
  obtain ⟨hv, rfl⟩ := hp
  cases hv
  refine aw_if_ne (tgt := 12) C (dec D_Mod_remove rfl) (by decide) (fun h5 => ?_) (fun h5 => ?_)
  · try simp only [mI_I, mL_I, mA_I, mJ_I, mI_L, mL_L, mA_L, mJ_L, mI_A, mL_A, mA_A, mJ_A, mI_J, mL_J, mA_J, mJ_J, cI_I, cL_I, cA_I, cJ_I, cR_I, cN_I, cI_L, cL_L, cA_L, cJ_L, cR_L, cN_L, cI_A, cL_A, cA_A, cJ_A, cR_A, cN_A, cI_J, cL_J, cA_J, cJ_J, cR_J, cN_J, cI_R, cL_R, cA_R, cJ_R, cR_R, cN_R, cI_N, cL_N, cA_N, cJ_N, cR_N, cN_N, ↓reduceIte, Nat.reduceEqDiff, upd_at, updL_at] at h5
    refine aw_aload_n (i := 0) C (dec D_Mod_remove rfl) rfl rfl ?_
    refine aw_iload_n (i := 1) C (dec D_Mod_remove rfl) rfl rfl ?_
    refine aw_cv C ci_Mod_166 [_] (c_Mod_isFile _ _ _ _ _ _ _) (dec D_Mod_remove rfl) rcM rfl fpP (Nat.le_of_ble_eq_true rfl) (by decide) ⟨by decide, by decide⟩ (fun v w2 hp => ?_) (fun _ _ h => by cases h.1)
    obtain ⟨hv, rfl⟩ := hp
    cases hv
    refine aw_if_ne (tgt := 24) C (dec D_Mod_remove rfl) (by decide) (fun h17 => ?_) (fun h17 => ?_)
    · try simp only [mI_I, mL_I, mA_I, mJ_I, mI_L, mL_L, mA_L, mJ_L, mI_A, mL_A, mA_A, mJ_A, mI_J, mL_J, mA_J, mJ_J, cI_I, cL_I, cA_I, cJ_I, cR_I, cN_I, cI_L, cL_L, cA_L, cJ_L, cR_L, cN_L, cI_A, cL_A, cA_A, cJ_A, cR_A, cN_A, cI_J, cL_J, cA_J, cJ_J, cR_J, cN_J, cI_R, cL_R, cA_R, cJ_R, cR_R, cN_R, cI_N, cL_N, cA_N, cJ_N, cR_N, cN_N, ↓reduceIte, Nat.reduceEqDiff, upd_at, updL_at] at h17
      refine aw_iconst (v := 0) C (dec D_Mod_remove rfl) (by decide) ?_
      refine pf_Mod_71 C Fw (dec D_Mod_remove rfl) ?_
      refine aw_aload_n (i := 0) C (dec D_Mod_remove rfl) rfl rfl ?_
      refine gf_Mod_71 C (dec D_Mod_remove rfl) ?_
      refine aw_if_le (tgt := 37) C (dec D_Mod_remove rfl) (by decide) (fun _ => ?_) (fun h_ => absurd (show (0 : Int32) ≤ (0 : Int32) by decide) h_)
      obtain ⟨t, ht, rfl, hnm⟩ := mIsFile_rng h17
      have ec := nI_clamp (n := t) (by omega)
      refine aw_aload_n (i := 0) C (dec D_Mod_remove rfl) rfl rfl ?_
      refine aw_iload_n (i := 1) C (dec D_Mod_remove rfl) rfl rfl ?_
      refine aw_iconst (v := 0) C (dec D_Mod_remove rfl) (by decide) ?_
      refine aw_cv C ci_Mod_185 [_, _] (c_Mod_shorten _ _ _ _ _ _ t 0 L ht (by omega) (hL.of rfl)) (dec D_Mod_remove rfl) rcM rfl (fpW Fw) (Nat.le_of_ble_eq_true rfl) (by decide) ⟨by decide, by decide⟩ (fun v w2 hp => ?_) (fun _ _ h => by cases h.1)
      obtain ⟨hv, rfl⟩ := hp
      cases hv
      refine aw_istore_n (i := 2) C (dec D_Mod_remove rfl) rfl (by decide) ?_
      refine aw_aload_n (i := 0) C (dec D_Mod_remove rfl) rfl rfl ?_
      refine aw_iload_n (i := 1) C (dec D_Mod_remove rfl) rfl rfl ?_
      refine aw_cv C ci_Mod_99 [_] (c_Mod_drop _ _ _ _ _ _ t ht) (dec D_Mod_remove rfl) rcM rfl (fpW Fw) (Nat.le_of_ble_eq_true rfl) (by decide) ⟨by decide, by decide⟩ (fun v w2 hp => ?_) (fun _ _ h => by cases h.1)
      obtain ⟨hv, rfl⟩ := hp
      cases hv
      refine aw_iload_n (i := 2) C (dec D_Mod_remove rfl) rfl rfl ?_
      refine aw_ret_i C r (dec D_Mod_remove rfl) rfl (by decide) (by decide) ?_
      refine ⟨?_, ?_⟩ <;> first | with_reducible rfl | (simp [mI_I, mL_I, mA_I, mJ_I, mI_L, mL_L, mA_L, mJ_L, mI_A, mL_A, mA_A, mJ_A, mI_J, mL_J, mA_J, mJ_J, cI_I, cL_I, cA_I, cJ_I, cR_I, cN_I, cI_L, cL_L, cA_L, cJ_L, cR_L, cN_L, cI_A, cL_A, cA_A, cJ_A, cR_A, cN_A, cI_J, cL_J, cA_J, cJ_J, cR_J, cN_J, cI_R, cL_R, cA_R, cJ_R, cR_R, cN_R, cI_N, cL_N, cA_N, cJ_N, cR_N, cN_N, ↓reduceIte, Nat.reduceEqDiff, upd_at, updL_at, h5, h17, ec, mRemoveR, mRemove, mGate]; done) | (simp [mI_I, mL_I, mA_I, mJ_I, mI_L, mL_L, mA_L, mJ_L, mI_A, mL_A, mA_A, mJ_A, mI_J, mL_J, mA_J, mJ_J, cI_I, cL_I, cA_I, cJ_I, cR_I, cN_I, cI_L, cL_L, cA_L, cJ_L, cR_L, cN_L, cI_A, cL_A, cA_A, cJ_A, cR_A, cN_A, cI_J, cL_J, cA_J, cJ_J, cR_J, cN_J, cI_R, cL_R, cA_R, cJ_R, cR_R, cN_R, cI_N, cL_N, cA_N, cJ_N, cR_N, cN_N, ↓reduceIte, Nat.reduceEqDiff, upd_at, updL_at, h5, h17, ec, mRemoveR, mRemove, mGate]; rfl)
    · try simp only [mI_I, mL_I, mA_I, mJ_I, mI_L, mL_L, mA_L, mJ_L, mI_A, mL_A, mA_A, mJ_A, mI_J, mL_J, mA_J, mJ_J, cI_I, cL_I, cA_I, cJ_I, cR_I, cN_I, cI_L, cL_L, cA_L, cJ_L, cR_L, cN_L, cI_A, cL_A, cA_A, cJ_A, cR_A, cN_A, cI_J, cL_J, cA_J, cJ_J, cR_J, cN_J, cI_R, cL_R, cA_R, cJ_R, cR_R, cN_R, cI_N, cL_N, cA_N, cJ_N, cR_N, cN_N, ↓reduceIte, Nat.reduceEqDiff, upd_at, updL_at] at h17
      refine aw_iconst (v := 2) C (dec D_Mod_remove rfl) (by decide) ?_
      refine aw_goto (tgt := 25) C (dec D_Mod_remove rfl) (by decide) ?_
      refine pf_Mod_71 C Fw (dec D_Mod_remove rfl) ?_
      refine aw_aload_n (i := 0) C (dec D_Mod_remove rfl) rfl rfl ?_
      refine gf_Mod_71 C (dec D_Mod_remove rfl) ?_
      refine aw_if_le (tgt := 37) C (dec D_Mod_remove rfl) (by decide) (fun h_ => absurd h_ (show ¬ (2 : Int32) ≤ (0 : Int32) by decide)) (fun _ => ?_)
      refine aw_iconst (v := 0) C (dec D_Mod_remove rfl) (by decide) ?_
      refine aw_ret_i C r (dec D_Mod_remove rfl) rfl (by decide) (by decide) ?_
      refine ⟨?_, ?_⟩ <;> first | with_reducible rfl | (simp [mI_I, mL_I, mA_I, mJ_I, mI_L, mL_L, mA_L, mJ_L, mI_A, mL_A, mA_A, mJ_A, mI_J, mL_J, mA_J, mJ_J, cI_I, cL_I, cA_I, cJ_I, cR_I, cN_I, cI_L, cL_L, cA_L, cJ_L, cR_L, cN_L, cI_A, cL_A, cA_A, cJ_A, cR_A, cN_A, cI_J, cL_J, cA_J, cJ_J, cR_J, cN_J, cI_R, cL_R, cA_R, cJ_R, cR_R, cN_R, cI_N, cL_N, cA_N, cJ_N, cR_N, cN_N, ↓reduceIte, Nat.reduceEqDiff, upd_at, updL_at, h5, h17, mRemoveR, mRemove, mGate]; done) | (simp [mI_I, mL_I, mA_I, mJ_I, mI_L, mL_L, mA_L, mJ_L, mI_A, mL_A, mA_A, mJ_A, mI_J, mL_J, mA_J, mJ_J, cI_I, cL_I, cA_I, cJ_I, cR_I, cN_I, cI_L, cL_L, cA_L, cJ_L, cR_L, cN_L, cI_A, cL_A, cA_A, cJ_A, cR_A, cN_A, cI_J, cL_J, cA_J, cJ_J, cR_J, cN_J, cI_R, cL_R, cA_R, cJ_R, cR_R, cN_R, cI_N, cL_N, cA_N, cJ_N, cR_N, cN_N, ↓reduceIte, Nat.reduceEqDiff, upd_at, updL_at, h5, h17, mRemoveR, mRemove, mGate]; rfl)
  · try simp only [mI_I, mL_I, mA_I, mJ_I, mI_L, mL_L, mA_L, mJ_L, mI_A, mL_A, mA_A, mJ_A, mI_J, mL_J, mA_J, mJ_J, cI_I, cL_I, cA_I, cJ_I, cR_I, cN_I, cI_L, cL_L, cA_L, cJ_L, cR_L, cN_L, cI_A, cL_A, cA_A, cJ_A, cR_A, cN_A, cI_J, cL_J, cA_J, cJ_J, cR_J, cN_J, cI_R, cL_R, cA_R, cJ_R, cR_R, cN_R, cI_N, cL_N, cA_N, cJ_N, cR_N, cN_N, ↓reduceIte, Nat.reduceEqDiff, upd_at, updL_at] at h5
    refine aw_iconst (v := 1) C (dec D_Mod_remove rfl) (by decide) ?_
    refine aw_goto (tgt := 25) C (dec D_Mod_remove rfl) (by decide) ?_
    refine pf_Mod_71 C Fw (dec D_Mod_remove rfl) ?_
    refine aw_aload_n (i := 0) C (dec D_Mod_remove rfl) rfl rfl ?_
    refine gf_Mod_71 C (dec D_Mod_remove rfl) ?_
    refine aw_if_le (tgt := 37) C (dec D_Mod_remove rfl) (by decide) (fun h_ => absurd h_ (show ¬ (1 : Int32) ≤ (0 : Int32) by decide)) (fun _ => ?_)
    refine aw_iconst (v := 0) C (dec D_Mod_remove rfl) (by decide) ?_
    refine aw_ret_i C r (dec D_Mod_remove rfl) rfl (by decide) (by decide) ?_
    refine ⟨?_, ?_⟩ <;> first | with_reducible rfl | (simp [mI_I, mL_I, mA_I, mJ_I, mI_L, mL_L, mA_L, mJ_L, mI_A, mL_A, mA_A, mJ_A, mI_J, mL_J, mA_J, mJ_J, cI_I, cL_I, cA_I, cJ_I, cR_I, cN_I, cI_L, cL_L, cA_L, cJ_L, cR_L, cN_L, cI_A, cL_A, cA_A, cJ_A, cR_A, cN_A, cI_J, cL_J, cA_J, cJ_J, cR_J, cN_J, cI_R, cL_R, cA_R, cJ_R, cR_R, cN_R, cI_N, cL_N, cA_N, cJ_N, cR_N, cN_N, ↓reduceIte, Nat.reduceEqDiff, upd_at, updL_at, h5, mRemoveR, mRemove, mGate]; done) | (simp [mI_I, mL_I, mA_I, mJ_I, mI_L, mL_L, mA_L, mJ_L, mI_A, mL_A, mA_A, mJ_A, mI_J, mL_J, mA_J, mJ_J, cI_I, cL_I, cA_I, cJ_I, cR_I, cN_I, cI_L, cL_L, cA_L, cJ_L, cR_L, cN_L, cI_A, cL_A, cA_A, cJ_A, cR_A, cN_A, cI_J, cL_J, cA_J, cJ_J, cR_J, cN_J, cI_R, cL_R, cA_R, cJ_R, cR_R, cN_R, cI_N, cL_N, cA_N, cJ_N, cR_N, cN_N, ↓reduceIte, Nat.reduceEqDiff, upd_at, updL_at, h5, mRemoveR, mRemove, mGate]; rfl)
