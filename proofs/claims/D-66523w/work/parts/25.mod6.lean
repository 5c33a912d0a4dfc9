/-! the model: files, requests: the small calls; printed by tools/m25.py -/
theorem ix_rg {x : Int32} {N : Nat} (hN : N < 2 ^ 31) (h1 : ¬ x < 0) (h2 : ¬ nI N ≤ x) : ∃ f : Nat, f < N ∧ x = nI f := by
  rcases pk_ix x (n := N) hN with h | h | ⟨j, hj, e⟩
  · exact absurd h h1
  · exact absurd h h2
  · exact ⟨j, hj, e⟩
theorem i_nlt {x y : Int32} (h : ¬ x < y) : y ≤ x := by rw [Int32.le_iff_toInt_le]; rw [Int32.lt_iff_toInt_lt] at h; omega
theorem i_nle {x y : Int32} (h : ¬ x ≤ y) : y < x := by rw [Int32.lt_iff_toInt_lt]; rw [Int32.le_iff_toInt_le] at h; omega
theorem i_lts {x : Int32} {n : Nat} (hn : n + 1 < 2 ^ 31) (h : ¬ nI n < x) : ¬ nI (n + 1) ≤ x := by
  intro z; rw [Int32.le_iff_toInt_le, nI_toInt hn] at z; rw [Int32.lt_iff_toInt_lt, nI_toInt (by omega)] at h; omega
def mStuckC (m : MM) (x y : Int32) : Int32 := if x < 0 then 1 else if 68 < x then 1 else if y < 0 then 1 else if y ≤ 1 then (if mI m 1 = 0 then 0 else 2) else 1
def mStuck (m : MM) (x y : Int32) : MM := if mStuckC m x y = 0 then mS (smI m 0 0) 1 x.toNatClampNeg 1 else smI m 0 (mStuckC m x y)
def mNumD (m : MM) (x : Int32) : Nat → Int32 → Int32
  | 0, r => r
  | s + 1, r => mNumD m x s (if mA m 3 s = 0 then r else if mA m 3 s = x then nI s else r)
def mNum (m : MM) (x : Int32) : Int32 := mNumD m x 8 (-1)
def mGate (m : MM) (x : Int32) : Int32 := if mReady m = 0 then 1 else if mIsFile m x = 0 then 2 else 0
theorem mIsFile_rng {m : MM} {x : Int32} (h : ¬ mIsFile m x = 0) : ∃ f : Nat, f < 8 ∧ x = nI f ∧ ¬ mA m 3 f = 0 := by
  unfold mIsFile at h
  split at h
  · exact absurd rfl h
  · rename_i h1
    split at h
    · exact absurd rfl h
    · rename_i h2
      obtain ⟨f, hf, rfl⟩ := ix_rng h1 h2
      rw [nI_clamp (by omega)] at h
      refine ⟨f, hf, rfl, fun z => h ?_⟩
      rw [if_pos z]
def mSlotD (m : MM) : Nat → Nat → Nat
  | 0, f => f
  | n + 1, f => if mA m 3 f = 0 then f else mSlotD m n (f + 1)
def mSlot (m : MM) : Nat := mSlotD m 8 0
def mCrC (m : MM) (x : Int32) : Int32 := if mReady m = 0 then 1 else if x = 0 then 2 else if mNum m x < 0 then 0 else 2
def mCreC (m : MM) (x : Int32) : Int32 := if mCrC m x = 0 then (if mSlot m = 8 then 3 else 0) else mCrC m x
def mCreate (m : MM) (x : Int32) : MM := if mCreC m x ≤ 0 then mS (mDrop (smI (smI m 0 (mCrC m x)) 0 (mCreC m x)) (mSlot m)) 3 (mSlot m) x else smI (smI m 0 (mCrC m x)) 0 (mCreC m x)
def mCreateR (m : MM) (x : Int32) : Int32 := if mCreC m x ≤ 0 then nI (mSlot m) else 0
def mFind (m : MM) : MM := smI m 0 (if mReady m = 0 then 1 else 0)
def mFindR (m : MM) (x : Int32) : Int32 := if mReady m = 0 then 0 else mNum m x
def mLengthR (m : MM) (x : Int32) : Int32 := if mGate m x = 0 then mA m 4 x.toNatClampNeg else 0
def mPageOfR (m : MM) (x y : Int32) : Int32 := if mGate m x = 0 then (if y < 0 then -1 else if y < (mA m 4 x.toNatClampNeg + 7) / 8 then mA m 5 (64 * x.toNatClampNeg + y.toNatClampNeg) else -1) else 0
def mQueueC (m : MM) (x : Int32) : Int32 := if mReady m = 0 then 1 else if x < 0 then 2 else if x ≤ 100 then (if mI m 8 = 16 then 3 else 0) else 2
def mQueue (m : MM) (x y : Int32) (v : Int64) : MM := if mQueueC m x = 0 then smI (mSJ (mS (mS (smI m 0 0) 12 (mI m 8).toNatClampNeg x) 13 (mI m 8).toNatClampNeg y) 14 (mI m 8).toNatClampNeg v) 8 (mI m 8 + 1) else smI m 0 (mQueueC m x)
def mQueueR (m : MM) (x : Int32) : Int32 := if mQueueC m x = 0 then mI m 8 + 1 - 1 else 0
def mServedC (m : MM) (x : Int32) : Int32 := if mReady m = 0 then 1 else if x < 0 then 2 else if x < mI m 9 then 0 else 2
def mServedR (m : MM) (x : Int32) : Int64 := if mServedC m x = 0 then mJ m 16 x.toNatClampNeg else 0
theorem c_Mod_stuck (l : Launch) (G : GG) (a : AD) (c : CC) (m : MM) (o : OO) (x y : Int32) : CT l G y_Mod_stuck (.code y_Mod_stuck b_Mod_stuck 3 none) 0 0 0 (Fyes G) (wld G a c m o) [.ref (a 30 0), .int x, .int y] (fun r w2 => r = .inl none ∧ w2 = wld G a c (mStuck m x y) o) := by
  refine CT.of (by decide) (Nat.le_of_ble_eq_true rfl) rfl ?_
  intro E hl hG hF C r hw hex hnm
  subst hl; subst hG
  have Fw : Cw E := fun a h => by rw [hF]; exact h
  refine aw_aload_n (i := 0) C (dec D_Mod_stuck rfl) rfl rfl ?_
  refine aw_iload_n (i := 1) C (dec D_Mod_stuck rfl) rfl rfl ?_
  refine aw_if_lt (tgt := 20) C (dec D_Mod_stuck rfl) (by decide) (fun h2 => ?_) (fun h2 => ?_)
  · try simp only [mI_I, mL_I, mA_I, mJ_I, mI_L, mL_L, mA_L, mJ_L, mI_A, mL_A, mA_A, mJ_A, mI_J, mL_J, mA_J, mJ_J, cI_I, cL_I, cA_I, cJ_I, cR_I, cN_I, cI_L, cL_L, cA_L, cJ_L, cR_L, cN_L, cI_A, cL_A, cA_A, cJ_A, cR_A, cN_A, cI_J, cL_J, cA_J, cJ_J, cR_J, cN_J, cI_R, cL_R, cA_R, cJ_R, cR_R, cN_R, cI_N, cL_N, cA_N, cJ_N, cR_N, cN_N, ↓reduceIte, Nat.reduceEqDiff, upd_at, updL_at] at h2
    refine aw_iconst (v := 1) C (dec D_Mod_stuck rfl) (by decide) ?_
    refine aw_goto (tgt := 36) C (dec D_Mod_stuck rfl) (by decide) ?_
    refine pf_Mod_71 C Fw (dec D_Mod_stuck rfl) ?_
    refine aw_aload_n (i := 0) C (dec D_Mod_stuck rfl) rfl rfl ?_
    refine gf_Mod_71 C (dec D_Mod_stuck rfl) ?_
    refine aw_if_ne (tgt := 53) C (dec D_Mod_stuck rfl) (by decide) (fun _ => ?_) (fun h_ => absurd h_ (show ¬ (1 : Int32) = (0 : Int32) by decide))
    refine aw_ret_v C r (dec D_Mod_stuck rfl) (by decide) (by decide) ?_
    refine ⟨?_, ?_⟩ <;> first | rfl | (simp [mI_I, mL_I, mA_I, mJ_I, mI_L, mL_L, mA_L, mJ_L, mI_A, mL_A, mA_A, mJ_A, mI_J, mL_J, mA_J, mJ_J, cI_I, cL_I, cA_I, cJ_I, cR_I, cN_I, cI_L, cL_L, cA_L, cJ_L, cR_L, cN_L, cI_A, cL_A, cA_A, cJ_A, cR_A, cN_A, cI_J, cL_J, cA_J, cJ_J, cR_J, cN_J, cI_R, cL_R, cA_R, cJ_R, cR_R, cN_R, cI_N, cL_N, cA_N, cJ_N, cR_N, cN_N, ↓reduceIte, Nat.reduceEqDiff, upd_at, updL_at, h2, mStuck, mStuckC]; done) | (simp [mI_I, mL_I, mA_I, mJ_I, mI_L, mL_L, mA_L, mJ_L, mI_A, mL_A, mA_A, mJ_A, mI_J, mL_J, mA_J, mJ_J, cI_I, cL_I, cA_I, cJ_I, cR_I, cN_I, cI_L, cL_L, cA_L, cJ_L, cR_L, cN_L, cI_A, cL_A, cA_A, cJ_A, cR_A, cN_A, cI_J, cL_J, cA_J, cJ_J, cR_J, cN_J, cI_R, cL_R, cA_R, cJ_R, cR_R, cN_R, cI_N, cL_N, cA_N, cJ_N, cR_N, cN_N, ↓reduceIte, Nat.reduceEqDiff, upd_at, updL_at, h2, mStuck, mStuckC]; rfl)
  · try simp only [mI_I, mL_I, mA_I, mJ_I, mI_L, mL_L, mA_L, mJ_L, mI_A, mL_A, mA_A, mJ_A, mI_J, mL_J, mA_J, mJ_J, cI_I, cL_I, cA_I, cJ_I, cR_I, cN_I, cI_L, cL_L, cA_L, cJ_L, cR_L, cN_L, cI_A, cL_A, cA_A, cJ_A, cR_A, cN_A, cI_J, cL_J, cA_J, cJ_J, cR_J, cN_J, cI_R, cL_R, cA_R, cJ_R, cR_R, cN_R, cI_N, cL_N, cA_N, cJ_N, cR_N, cN_N, ↓reduceIte, Nat.reduceEqDiff, upd_at, updL_at] at h2
    refine aw_iload_n (i := 1) C (dec D_Mod_stuck rfl) rfl rfl ?_
    refine aw_bipush (v := 68) C (dec D_Mod_stuck rfl) (by decide) ?_
    refine aw_icmp_gt (tgt := 20) C (dec D_Mod_stuck rfl) (by decide) (fun h8 => ?_) (fun h8 => ?_)
    · try simp only [mI_I, mL_I, mA_I, mJ_I, mI_L, mL_L, mA_L, mJ_L, mI_A, mL_A, mA_A, mJ_A, mI_J, mL_J, mA_J, mJ_J, cI_I, cL_I, cA_I, cJ_I, cR_I, cN_I, cI_L, cL_L, cA_L, cJ_L, cR_L, cN_L, cI_A, cL_A, cA_A, cJ_A, cR_A, cN_A, cI_J, cL_J, cA_J, cJ_J, cR_J, cN_J, cI_R, cL_R, cA_R, cJ_R, cR_R, cN_R, cI_N, cL_N, cA_N, cJ_N, cR_N, cN_N, ↓reduceIte, Nat.reduceEqDiff, upd_at, updL_at] at h8
      refine aw_iconst (v := 1) C (dec D_Mod_stuck rfl) (by decide) ?_
      refine aw_goto (tgt := 36) C (dec D_Mod_stuck rfl) (by decide) ?_
      refine pf_Mod_71 C Fw (dec D_Mod_stuck rfl) ?_
      refine aw_aload_n (i := 0) C (dec D_Mod_stuck rfl) rfl rfl ?_
      refine gf_Mod_71 C (dec D_Mod_stuck rfl) ?_
      refine aw_if_ne (tgt := 53) C (dec D_Mod_stuck rfl) (by decide) (fun _ => ?_) (fun h_ => absurd h_ (show ¬ (1 : Int32) = (0 : Int32) by decide))
      refine aw_ret_v C r (dec D_Mod_stuck rfl) (by decide) (by decide) ?_
      refine ⟨?_, ?_⟩ <;> first | rfl | (simp [mI_I, mL_I, mA_I, mJ_I, mI_L, mL_L, mA_L, mJ_L, mI_A, mL_A, mA_A, mJ_A, mI_J, mL_J, mA_J, mJ_J, cI_I, cL_I, cA_I, cJ_I, cR_I, cN_I, cI_L, cL_L, cA_L, cJ_L, cR_L, cN_L, cI_A, cL_A, cA_A, cJ_A, cR_A, cN_A, cI_J, cL_J, cA_J, cJ_J, cR_J, cN_J, cI_R, cL_R, cA_R, cJ_R, cR_R, cN_R, cI_N, cL_N, cA_N, cJ_N, cR_N, cN_N, ↓reduceIte, Nat.reduceEqDiff, upd_at, updL_at, h2, h8, mStuck, mStuckC]; done) | (simp [mI_I, mL_I, mA_I, mJ_I, mI_L, mL_L, mA_L, mJ_L, mI_A, mL_A, mA_A, mJ_A, mI_J, mL_J, mA_J, mJ_J, cI_I, cL_I, cA_I, cJ_I, cR_I, cN_I, cI_L, cL_L, cA_L, cJ_L, cR_L, cN_L, cI_A, cL_A, cA_A, cJ_A, cR_A, cN_A, cI_J, cL_J, cA_J, cJ_J, cR_J, cN_J, cI_R, cL_R, cA_R, cJ_R, cR_R, cN_R, cI_N, cL_N, cA_N, cJ_N, cR_N, cN_N, ↓reduceIte, Nat.reduceEqDiff, upd_at, updL_at, h2, h8, mStuck, mStuckC]; rfl)
    · try simp only [mI_I, mL_I, mA_I, mJ_I, mI_L, mL_L, mA_L, mJ_L, mI_A, mL_A, mA_A, mJ_A, mI_J, mL_J, mA_J, mJ_J, cI_I, cL_I, cA_I, cJ_I, cR_I, cN_I, cI_L, cL_L, cA_L, cJ_L, cR_L, cN_L, cI_A, cL_A, cA_A, cJ_A, cR_A, cN_A, cI_J, cL_J, cA_J, cJ_J, cR_J, cN_J, cI_R, cL_R, cA_R, cJ_R, cR_R, cN_R, cI_N, cL_N, cA_N, cJ_N, cR_N, cN_N, ↓reduceIte, Nat.reduceEqDiff, upd_at, updL_at] at h8
      refine aw_iload_n (i := 2) C (dec D_Mod_stuck rfl) rfl rfl ?_
      refine aw_if_lt (tgt := 20) C (dec D_Mod_stuck rfl) (by decide) (fun h12 => ?_) (fun h12 => ?_)
      · try simp only [mI_I, mL_I, mA_I, mJ_I, mI_L, mL_L, mA_L, mJ_L, mI_A, mL_A, mA_A, mJ_A, mI_J, mL_J, mA_J, mJ_J, cI_I, cL_I, cA_I, cJ_I, cR_I, cN_I, cI_L, cL_L, cA_L, cJ_L, cR_L, cN_L, cI_A, cL_A, cA_A, cJ_A, cR_A, cN_A, cI_J, cL_J, cA_J, cJ_J, cR_J, cN_J, cI_R, cL_R, cA_R, cJ_R, cR_R, cN_R, cI_N, cL_N, cA_N, cJ_N, cR_N, cN_N, ↓reduceIte, Nat.reduceEqDiff, upd_at, updL_at] at h12
        refine aw_iconst (v := 1) C (dec D_Mod_stuck rfl) (by decide) ?_
        refine aw_goto (tgt := 36) C (dec D_Mod_stuck rfl) (by decide) ?_
        refine pf_Mod_71 C Fw (dec D_Mod_stuck rfl) ?_
        refine aw_aload_n (i := 0) C (dec D_Mod_stuck rfl) rfl rfl ?_
        refine gf_Mod_71 C (dec D_Mod_stuck rfl) ?_
        refine aw_if_ne (tgt := 53) C (dec D_Mod_stuck rfl) (by decide) (fun _ => ?_) (fun h_ => absurd h_ (show ¬ (1 : Int32) = (0 : Int32) by decide))
        refine aw_ret_v C r (dec D_Mod_stuck rfl) (by decide) (by decide) ?_
        refine ⟨?_, ?_⟩ <;> first | rfl | (simp [mI_I, mL_I, mA_I, mJ_I, mI_L, mL_L, mA_L, mJ_L, mI_A, mL_A, mA_A, mJ_A, mI_J, mL_J, mA_J, mJ_J, cI_I, cL_I, cA_I, cJ_I, cR_I, cN_I, cI_L, cL_L, cA_L, cJ_L, cR_L, cN_L, cI_A, cL_A, cA_A, cJ_A, cR_A, cN_A, cI_J, cL_J, cA_J, cJ_J, cR_J, cN_J, cI_R, cL_R, cA_R, cJ_R, cR_R, cN_R, cI_N, cL_N, cA_N, cJ_N, cR_N, cN_N, ↓reduceIte, Nat.reduceEqDiff, upd_at, updL_at, h2, h8, h12, mStuck, mStuckC]; done) | (simp [mI_I, mL_I, mA_I, mJ_I, mI_L, mL_L, mA_L, mJ_L, mI_A, mL_A, mA_A, mJ_A, mI_J, mL_J, mA_J, mJ_J, cI_I, cL_I, cA_I, cJ_I, cR_I, cN_I, cI_L, cL_L, cA_L, cJ_L, cR_L, cN_L, cI_A, cL_A, cA_A, cJ_A, cR_A, cN_A, cI_J, cL_J, cA_J, cJ_J, cR_J, cN_J, cI_R, cL_R, cA_R, cJ_R, cR_R, cN_R, cI_N, cL_N, cA_N, cJ_N, cR_N, cN_N, ↓reduceIte, Nat.reduceEqDiff, upd_at, updL_at, h2, h8, h12, mStuck, mStuckC]; rfl)
      · try simp only [mI_I, mL_I, mA_I, mJ_I, mI_L, mL_L, mA_L, mJ_L, mI_A, mL_A, mA_A, mJ_A, mI_J, mL_J, mA_J, mJ_J, cI_I, cL_I, cA_I, cJ_I, cR_I, cN_I, cI_L, cL_L, cA_L, cJ_L, cR_L, cN_L, cI_A, cL_A, cA_A, cJ_A, cR_A, cN_A, cI_J, cL_J, cA_J, cJ_J, cR_J, cN_J, cI_R, cL_R, cA_R, cJ_R, cR_R, cN_R, cI_N, cL_N, cA_N, cJ_N, cR_N, cN_N, ↓reduceIte, Nat.reduceEqDiff, upd_at, updL_at] at h12
        refine aw_iload_n (i := 2) C (dec D_Mod_stuck rfl) rfl rfl ?_
        refine aw_iconst (v := 1) C (dec D_Mod_stuck rfl) (by decide) ?_
        refine aw_icmp_le (tgt := 24) C (dec D_Mod_stuck rfl) (by decide) (fun h17 => ?_) (fun h17 => ?_)
        · try simp only [mI_I, mL_I, mA_I, mJ_I, mI_L, mL_L, mA_L, mJ_L, mI_A, mL_A, mA_A, mJ_A, mI_J, mL_J, mA_J, mJ_J, cI_I, cL_I, cA_I, cJ_I, cR_I, cN_I, cI_L, cL_L, cA_L, cJ_L, cR_L, cN_L, cI_A, cL_A, cA_A, cJ_A, cR_A, cN_A, cI_J, cL_J, cA_J, cJ_J, cR_J, cN_J, cI_R, cL_R, cA_R, cJ_R, cR_R, cN_R, cI_N, cL_N, cA_N, cJ_N, cR_N, cN_N, ↓reduceIte, Nat.reduceEqDiff, upd_at, updL_at] at h17
          refine aw_aload_n (i := 0) C (dec D_Mod_stuck rfl) rfl rfl ?_
          refine gf_Mod_74 C (dec D_Mod_stuck rfl) ?_
          refine aw_if_eq (tgt := 35) C (dec D_Mod_stuck rfl) (by decide) (fun h28 => ?_) (fun h28 => ?_)
          · try simp only [mI_I, mL_I, mA_I, mJ_I, mI_L, mL_L, mA_L, mJ_L, mI_A, mL_A, mA_A, mJ_A, mI_J, mL_J, mA_J, mJ_J, cI_I, cL_I, cA_I, cJ_I, cR_I, cN_I, cI_L, cL_L, cA_L, cJ_L, cR_L, cN_L, cI_A, cL_A, cA_A, cJ_A, cR_A, cN_A, cI_J, cL_J, cA_J, cJ_J, cR_J, cN_J, cI_R, cL_R, cA_R, cJ_R, cR_R, cN_R, cI_N, cL_N, cA_N, cJ_N, cR_N, cN_N, ↓reduceIte, Nat.reduceEqDiff, upd_at, updL_at] at h28
            refine aw_iconst (v := 0) C (dec D_Mod_stuck rfl) (by decide) ?_
            refine pf_Mod_71 C Fw (dec D_Mod_stuck rfl) ?_
            refine aw_aload_n (i := 0) C (dec D_Mod_stuck rfl) rfl rfl ?_
            refine gf_Mod_71 C (dec D_Mod_stuck rfl) ?_
            refine aw_if_ne (tgt := 53) C (dec D_Mod_stuck rfl) (by decide) (fun h_ => absurd (show (0 : Int32) = (0 : Int32) by decide) h_) (fun _ => ?_)
            obtain ⟨t, ht, rfl⟩ := ix_rg (N := 69) (by omega) h2 (i_lts (n := 68) (by omega) h8)
            have ec := nI_clamp (n := t) (by omega)
            refine aw_aload_n (i := 0) C (dec D_Mod_stuck rfl) rfl rfl ?_
            refine gf_Mod_7 C (dec D_Mod_stuck rfl) ?_
            refine aw_iload_n (i := 1) C (dec D_Mod_stuck rfl) rfl rfl ?_
            refine aw_iconst (v := 1) C (dec D_Mod_stuck rfl) (by decide) ?_
            refine as_M1 C Fw t bz1 (dec D_Mod_stuck rfl) (ix_of ht) ?_
            refine aw_ret_v C r (dec D_Mod_stuck rfl) (by decide) (by decide) ?_
            refine ⟨?_, ?_⟩ <;> first | rfl | (simp [mI_I, mL_I, mA_I, mJ_I, mI_L, mL_L, mA_L, mJ_L, mI_A, mL_A, mA_A, mJ_A, mI_J, mL_J, mA_J, mJ_J, cI_I, cL_I, cA_I, cJ_I, cR_I, cN_I, cI_L, cL_L, cA_L, cJ_L, cR_L, cN_L, cI_A, cL_A, cA_A, cJ_A, cR_A, cN_A, cI_J, cL_J, cA_J, cJ_J, cR_J, cN_J, cI_R, cL_R, cA_R, cJ_R, cR_R, cN_R, cI_N, cL_N, cA_N, cJ_N, cR_N, cN_N, ↓reduceIte, Nat.reduceEqDiff, upd_at, updL_at, h2, h8, h12, h17, h28, ec, mStuck, mStuckC]; done) | (simp [mI_I, mL_I, mA_I, mJ_I, mI_L, mL_L, mA_L, mJ_L, mI_A, mL_A, mA_A, mJ_A, mI_J, mL_J, mA_J, mJ_J, cI_I, cL_I, cA_I, cJ_I, cR_I, cN_I, cI_L, cL_L, cA_L, cJ_L, cR_L, cN_L, cI_A, cL_A, cA_A, cJ_A, cR_A, cN_A, cI_J, cL_J, cA_J, cJ_J, cR_J, cN_J, cI_R, cL_R, cA_R, cJ_R, cR_R, cN_R, cI_N, cL_N, cA_N, cJ_N, cR_N, cN_N, ↓reduceIte, Nat.reduceEqDiff, upd_at, updL_at, h2, h8, h12, h17, h28, ec, mStuck, mStuckC]; rfl)
          · try simp only [mI_I, mL_I, mA_I, mJ_I, mI_L, mL_L, mA_L, mJ_L, mI_A, mL_A, mA_A, mJ_A, mI_J, mL_J, mA_J, mJ_J, cI_I, cL_I, cA_I, cJ_I, cR_I, cN_I, cI_L, cL_L, cA_L, cJ_L, cR_L, cN_L, cI_A, cL_A, cA_A, cJ_A, cR_A, cN_A, cI_J, cL_J, cA_J, cJ_J, cR_J, cN_J, cI_R, cL_R, cA_R, cJ_R, cR_R, cN_R, cI_N, cL_N, cA_N, cJ_N, cR_N, cN_N, ↓reduceIte, Nat.reduceEqDiff, upd_at, updL_at] at h28
            refine aw_iconst (v := 2) C (dec D_Mod_stuck rfl) (by decide) ?_
            refine aw_goto (tgt := 36) C (dec D_Mod_stuck rfl) (by decide) ?_
            refine pf_Mod_71 C Fw (dec D_Mod_stuck rfl) ?_
            refine aw_aload_n (i := 0) C (dec D_Mod_stuck rfl) rfl rfl ?_
            refine gf_Mod_71 C (dec D_Mod_stuck rfl) ?_
            refine aw_if_ne (tgt := 53) C (dec D_Mod_stuck rfl) (by decide) (fun _ => ?_) (fun h_ => absurd h_ (show ¬ (2 : Int32) = (0 : Int32) by decide))
            refine aw_ret_v C r (dec D_Mod_stuck rfl) (by decide) (by decide) ?_
            refine ⟨?_, ?_⟩ <;> first | rfl | (simp [mI_I, mL_I, mA_I, mJ_I, mI_L, mL_L, mA_L, mJ_L, mI_A, mL_A, mA_A, mJ_A, mI_J, mL_J, mA_J, mJ_J, cI_I, cL_I, cA_I, cJ_I, cR_I, cN_I, cI_L, cL_L, cA_L, cJ_L, cR_L, cN_L, cI_A, cL_A, cA_A, cJ_A, cR_A, cN_A, cI_J, cL_J, cA_J, cJ_J, cR_J, cN_J, cI_R, cL_R, cA_R, cJ_R, cR_R, cN_R, cI_N, cL_N, cA_N, cJ_N, cR_N, cN_N, ↓reduceIte, Nat.reduceEqDiff, upd_at, updL_at, h2, h8, h12, h17, h28, mStuck, mStuckC]; done) | (simp [mI_I, mL_I, mA_I, mJ_I, mI_L, mL_L, mA_L, mJ_L, mI_A, mL_A, mA_A, mJ_A, mI_J, mL_J, mA_J, mJ_J, cI_I, cL_I, cA_I, cJ_I, cR_I, cN_I, cI_L, cL_L, cA_L, cJ_L, cR_L, cN_L, cI_A, cL_A, cA_A, cJ_A, cR_A, cN_A, cI_J, cL_J, cA_J, cJ_J, cR_J, cN_J, cI_R, cL_R, cA_R, cJ_R, cR_R, cN_R, cI_N, cL_N, cA_N, cJ_N, cR_N, cN_N, ↓reduceIte, Nat.reduceEqDiff, upd_at, updL_at, h2, h8, h12, h17, h28, mStuck, mStuckC]; rfl)
        · try simp only [mI_I, mL_I, mA_I, mJ_I, mI_L, mL_L, mA_L, mJ_L, mI_A, mL_A, mA_A, mJ_A, mI_J, mL_J, mA_J, mJ_J, cI_I, cL_I, cA_I, cJ_I, cR_I, cN_I, cI_L, cL_L, cA_L, cJ_L, cR_L, cN_L, cI_A, cL_A, cA_A, cJ_A, cR_A, cN_A, cI_J, cL_J, cA_J, cJ_J, cR_J, cN_J, cI_R, cL_R, cA_R, cJ_R, cR_R, cN_R, cI_N, cL_N, cA_N, cJ_N, cR_N, cN_N, ↓reduceIte, Nat.reduceEqDiff, upd_at, updL_at] at h17
          refine aw_iconst (v := 1) C (dec D_Mod_stuck rfl) (by decide) ?_
          refine aw_goto (tgt := 36) C (dec D_Mod_stuck rfl) (by decide) ?_
          refine pf_Mod_71 C Fw (dec D_Mod_stuck rfl) ?_
          refine aw_aload_n (i := 0) C (dec D_Mod_stuck rfl) rfl rfl ?_
          refine gf_Mod_71 C (dec D_Mod_stuck rfl) ?_
          refine aw_if_ne (tgt := 53) C (dec D_Mod_stuck rfl) (by decide) (fun _ => ?_) (fun h_ => absurd h_ (show ¬ (1 : Int32) = (0 : Int32) by decide))
          refine aw_ret_v C r (dec D_Mod_stuck rfl) (by decide) (by decide) ?_
          refine ⟨?_, ?_⟩ <;> first | rfl | (simp [mI_I, mL_I, mA_I, mJ_I, mI_L, mL_L, mA_L, mJ_L, mI_A, mL_A, mA_A, mJ_A, mI_J, mL_J, mA_J, mJ_J, cI_I, cL_I, cA_I, cJ_I, cR_I, cN_I, cI_L, cL_L, cA_L, cJ_L, cR_L, cN_L, cI_A, cL_A, cA_A, cJ_A, cR_A, cN_A, cI_J, cL_J, cA_J, cJ_J, cR_J, cN_J, cI_R, cL_R, cA_R, cJ_R, cR_R, cN_R, cI_N, cL_N, cA_N, cJ_N, cR_N, cN_N, ↓reduceIte, Nat.reduceEqDiff, upd_at, updL_at, h2, h8, h12, h17, mStuck, mStuckC]; done) | (simp [mI_I, mL_I, mA_I, mJ_I, mI_L, mL_L, mA_L, mJ_L, mI_A, mL_A, mA_A, mJ_A, mI_J, mL_J, mA_J, mJ_J, cI_I, cL_I, cA_I, cJ_I, cR_I, cN_I, cI_L, cL_L, cA_L, cJ_L, cR_L, cN_L, cI_A, cL_A, cA_A, cJ_A, cR_A, cN_A, cI_J, cL_J, cA_J, cJ_J, cR_J, cN_J, cI_R, cL_R, cA_R, cJ_R, cR_R, cN_R, cI_N, cL_N, cA_N, cJ_N, cR_N, cN_N, ↓reduceIte, Nat.reduceEqDiff, upd_at, updL_at, h2, h8, h12, h17, mStuck, mStuckC]; rfl)
theorem c_Mod_isFile (l : Launch) (G : GG) (a : AD) (c : CC) (m : MM) (o : OO) (x : Int32) : CT l G y_Mod_isFile (.code y_Mod_isFile b_Mod_isFile 2 (some .boolean)) 0 0 0 Fno (wld G a c m o) [.ref (a 30 0), .int x] (fun r w2 => r = .inl (some (.int (mIsFile m x))) ∧ w2 = wld G a c m o) := by
  refine CT.of (by decide) (Nat.le_of_ble_eq_true rfl) rfl ?_
  intro E hl hG hF C r hw hex hnm
  subst hl; subst hG
  refine aw_iload_n (i := 1) C (dec D_Mod_isFile rfl) rfl rfl ?_
  refine aw_if_lt (tgt := 23) C (dec D_Mod_isFile rfl) (by decide) (fun h1 => ?_) (fun h1 => ?_)
  · try simp only [mI_I, mL_I, mA_I, mJ_I, mI_L, mL_L, mA_L, mJ_L, mI_A, mL_A, mA_A, mJ_A, mI_J, mL_J, mA_J, mJ_J, cI_I, cL_I, cA_I, cJ_I, cR_I, cN_I, cI_L, cL_L, cA_L, cJ_L, cR_L, cN_L, cI_A, cL_A, cA_A, cJ_A, cR_A, cN_A, cI_J, cL_J, cA_J, cJ_J, cR_J, cN_J, cI_R, cL_R, cA_R, cJ_R, cR_R, cN_R, cI_N, cL_N, cA_N, cJ_N, cR_N, cN_N, ↓reduceIte, Nat.reduceEqDiff, upd_at, updL_at] at h1
    refine aw_iconst (v := 0) C (dec D_Mod_isFile rfl) (by decide) ?_
    refine aw_ret_i C r (dec D_Mod_isFile rfl) rfl (by decide) (by decide) ?_
    refine ⟨?_, ?_⟩ <;> first | rfl | (simp [mI_I, mL_I, mA_I, mJ_I, mI_L, mL_L, mA_L, mJ_L, mI_A, mL_A, mA_A, mJ_A, mI_J, mL_J, mA_J, mJ_J, cI_I, cL_I, cA_I, cJ_I, cR_I, cN_I, cI_L, cL_L, cA_L, cJ_L, cR_L, cN_L, cI_A, cL_A, cA_A, cJ_A, cR_A, cN_A, cI_J, cL_J, cA_J, cJ_J, cR_J, cN_J, cI_R, cL_R, cA_R, cJ_R, cR_R, cN_R, cI_N, cL_N, cA_N, cJ_N, cR_N, cN_N, ↓reduceIte, Nat.reduceEqDiff, upd_at, updL_at, h1, mIsFile]; done) | (simp [mI_I, mL_I, mA_I, mJ_I, mI_L, mL_L, mA_L, mJ_L, mI_A, mL_A, mA_A, mJ_A, mI_J, mL_J, mA_J, mJ_J, cI_I, cL_I, cA_I, cJ_I, cR_I, cN_I, cI_L, cL_L, cA_L, cJ_L, cR_L, cN_L, cI_A, cL_A, cA_A, cJ_A, cR_A, cN_A, cI_J, cL_J, cA_J, cJ_J, cR_J, cN_J, cI_R, cL_R, cA_R, cJ_R, cR_R, cN_R, cI_N, cL_N, cA_N, cJ_N, cR_N, cN_N, ↓reduceIte, Nat.reduceEqDiff, upd_at, updL_at, h1, mIsFile]; rfl)
  · try simp only [mI_I, mL_I, mA_I, mJ_I, mI_L, mL_L, mA_L, mJ_L, mI_A, mL_A, mA_A, mJ_A, mI_J, mL_J, mA_J, mJ_J, cI_I, cL_I, cA_I, cJ_I, cR_I, cN_I, cI_L, cL_L, cA_L, cJ_L, cR_L, cN_L, cI_A, cL_A, cA_A, cJ_A, cR_A, cN_A, cI_J, cL_J, cA_J, cJ_J, cR_J, cN_J, cI_R, cL_R, cA_R, cJ_R, cR_R, cN_R, cI_N, cL_N, cA_N, cJ_N, cR_N, cN_N, ↓reduceIte, Nat.reduceEqDiff, upd_at, updL_at] at h1
    refine aw_iload_n (i := 1) C (dec D_Mod_isFile rfl) rfl rfl ?_
    refine aw_bipush (v := 8) C (dec D_Mod_isFile rfl) (by decide) ?_
    refine aw_icmp_ge (tgt := 23) C (dec D_Mod_isFile rfl) (by decide) (fun h7 => ?_) (fun h7 => ?_)
    · try simp only [mI_I, mL_I, mA_I, mJ_I, mI_L, mL_L, mA_L, mJ_L, mI_A, mL_A, mA_A, mJ_A, mI_J, mL_J, mA_J, mJ_J, cI_I, cL_I, cA_I, cJ_I, cR_I, cN_I, cI_L, cL_L, cA_L, cJ_L, cR_L, cN_L, cI_A, cL_A, cA_A, cJ_A, cR_A, cN_A, cI_J, cL_J, cA_J, cJ_J, cR_J, cN_J, cI_R, cL_R, cA_R, cJ_R, cR_R, cN_R, cI_N, cL_N, cA_N, cJ_N, cR_N, cN_N, ↓reduceIte, Nat.reduceEqDiff, upd_at, updL_at] at h7
      refine aw_iconst (v := 0) C (dec D_Mod_isFile rfl) (by decide) ?_
      refine aw_ret_i C r (dec D_Mod_isFile rfl) rfl (by decide) (by decide) ?_
      refine ⟨?_, ?_⟩ <;> first | rfl | (simp [mI_I, mL_I, mA_I, mJ_I, mI_L, mL_L, mA_L, mJ_L, mI_A, mL_A, mA_A, mJ_A, mI_J, mL_J, mA_J, mJ_J, cI_I, cL_I, cA_I, cJ_I, cR_I, cN_I, cI_L, cL_L, cA_L, cJ_L, cR_L, cN_L, cI_A, cL_A, cA_A, cJ_A, cR_A, cN_A, cI_J, cL_J, cA_J, cJ_J, cR_J, cN_J, cI_R, cL_R, cA_R, cJ_R, cR_R, cN_R, cI_N, cL_N, cA_N, cJ_N, cR_N, cN_N, ↓reduceIte, Nat.reduceEqDiff, upd_at, updL_at, h1, h7, mIsFile]; done) | (simp [mI_I, mL_I, mA_I, mJ_I, mI_L, mL_L, mA_L, mJ_L, mI_A, mL_A, mA_A, mJ_A, mI_J, mL_J, mA_J, mJ_J, cI_I, cL_I, cA_I, cJ_I, cR_I, cN_I, cI_L, cL_L, cA_L, cJ_L, cR_L, cN_L, cI_A, cL_A, cA_A, cJ_A, cR_A, cN_A, cI_J, cL_J, cA_J, cJ_J, cR_J, cN_J, cI_R, cL_R, cA_R, cJ_R, cR_R, cN_R, cI_N, cL_N, cA_N, cJ_N, cR_N, cN_N, ↓reduceIte, Nat.reduceEqDiff, upd_at, updL_at, h1, h7, mIsFile]; rfl)
    · try simp only [mI_I, mL_I, mA_I, mJ_I, mI_L, mL_L, mA_L, mJ_L, mI_A, mL_A, mA_A, mJ_A, mI_J, mL_J, mA_J, mJ_J, cI_I, cL_I, cA_I, cJ_I, cR_I, cN_I, cI_L, cL_L, cA_L, cJ_L, cR_L, cN_L, cI_A, cL_A, cA_A, cJ_A, cR_A, cN_A, cI_J, cL_J, cA_J, cJ_J, cR_J, cN_J, cI_R, cL_R, cA_R, cJ_R, cR_R, cN_R, cI_N, cL_N, cA_N, cJ_N, cR_N, cN_N, ↓reduceIte, Nat.reduceEqDiff, upd_at, updL_at] at h7
      obtain ⟨t, ht, rfl⟩ := ix_rng h1 h7
      have ec := nI_clamp (n := t) (by omega)
      refine aw_aload_n (i := 0) C (dec D_Mod_isFile rfl) rfl rfl ?_
      refine gf_Mod_25 C (dec D_Mod_isFile rfl) ?_
      refine aw_iload_n (i := 1) C (dec D_Mod_isFile rfl) rfl rfl ?_
      refine al_M3 C t (dec D_Mod_isFile rfl) (ix_of ht) ?_
      refine aw_if_eq (tgt := 23) C (dec D_Mod_isFile rfl) (by decide) (fun h16 => ?_) (fun h16 => ?_)
      · try simp only [mI_I, mL_I, mA_I, mJ_I, mI_L, mL_L, mA_L, mJ_L, mI_A, mL_A, mA_A, mJ_A, mI_J, mL_J, mA_J, mJ_J, cI_I, cL_I, cA_I, cJ_I, cR_I, cN_I, cI_L, cL_L, cA_L, cJ_L, cR_L, cN_L, cI_A, cL_A, cA_A, cJ_A, cR_A, cN_A, cI_J, cL_J, cA_J, cJ_J, cR_J, cN_J, cI_R, cL_R, cA_R, cJ_R, cR_R, cN_R, cI_N, cL_N, cA_N, cJ_N, cR_N, cN_N, ↓reduceIte, Nat.reduceEqDiff, upd_at, updL_at] at h16
        refine aw_iconst (v := 0) C (dec D_Mod_isFile rfl) (by decide) ?_
        refine aw_ret_i C r (dec D_Mod_isFile rfl) rfl (by decide) (by decide) ?_
        refine ⟨?_, ?_⟩ <;> first | rfl | (simp [mI_I, mL_I, mA_I, mJ_I, mI_L, mL_L, mA_L, mJ_L, mI_A, mL_A, mA_A, mJ_A, mI_J, mL_J, mA_J, mJ_J, cI_I, cL_I, cA_I, cJ_I, cR_I, cN_I, cI_L, cL_L, cA_L, cJ_L, cR_L, cN_L, cI_A, cL_A, cA_A, cJ_A, cR_A, cN_A, cI_J, cL_J, cA_J, cJ_J, cR_J, cN_J, cI_R, cL_R, cA_R, cJ_R, cR_R, cN_R, cI_N, cL_N, cA_N, cJ_N, cR_N, cN_N, ↓reduceIte, Nat.reduceEqDiff, upd_at, updL_at, h1, h7, ec, h16, mIsFile]; done) | (simp [mI_I, mL_I, mA_I, mJ_I, mI_L, mL_L, mA_L, mJ_L, mI_A, mL_A, mA_A, mJ_A, mI_J, mL_J, mA_J, mJ_J, cI_I, cL_I, cA_I, cJ_I, cR_I, cN_I, cI_L, cL_L, cA_L, cJ_L, cR_L, cN_L, cI_A, cL_A, cA_A, cJ_A, cR_A, cN_A, cI_J, cL_J, cA_J, cJ_J, cR_J, cN_J, cI_R, cL_R, cA_R, cJ_R, cR_R, cN_R, cI_N, cL_N, cA_N, cJ_N, cR_N, cN_N, ↓reduceIte, Nat.reduceEqDiff, upd_at, updL_at, h1, h7, ec, h16, mIsFile]; rfl)
      · try simp only [mI_I, mL_I, mA_I, mJ_I, mI_L, mL_L, mA_L, mJ_L, mI_A, mL_A, mA_A, mJ_A, mI_J, mL_J, mA_J, mJ_J, cI_I, cL_I, cA_I, cJ_I, cR_I, cN_I, cI_L, cL_L, cA_L, cJ_L, cR_L, cN_L, cI_A, cL_A, cA_A, cJ_A, cR_A, cN_A, cI_J, cL_J, cA_J, cJ_J, cR_J, cN_J, cI_R, cL_R, cA_R, cJ_R, cR_R, cN_R, cI_N, cL_N, cA_N, cJ_N, cR_N, cN_N, ↓reduceIte, Nat.reduceEqDiff, upd_at, updL_at] at h16
        refine aw_iconst (v := 1) C (dec D_Mod_isFile rfl) (by decide) ?_
        refine aw_goto (tgt := 24) C (dec D_Mod_isFile rfl) (by decide) ?_
        refine aw_ret_i C r (dec D_Mod_isFile rfl) rfl (by decide) (by decide) ?_
        refine ⟨?_, ?_⟩ <;> first | rfl | (simp [mI_I, mL_I, mA_I, mJ_I, mI_L, mL_L, mA_L, mJ_L, mI_A, mL_A, mA_A, mJ_A, mI_J, mL_J, mA_J, mJ_J, cI_I, cL_I, cA_I, cJ_I, cR_I, cN_I, cI_L, cL_L, cA_L, cJ_L, cR_L, cN_L, cI_A, cL_A, cA_A, cJ_A, cR_A, cN_A, cI_J, cL_J, cA_J, cJ_J, cR_J, cN_J, cI_R, cL_R, cA_R, cJ_R, cR_R, cN_R, cI_N, cL_N, cA_N, cJ_N, cR_N, cN_N, ↓reduceIte, Nat.reduceEqDiff, upd_at, updL_at, h1, h7, ec, h16, mIsFile]; done) | (simp [mI_I, mL_I, mA_I, mJ_I, mI_L, mL_L, mA_L, mJ_L, mI_A, mL_A, mA_A, mJ_A, mI_J, mL_J, mA_J, mJ_J, cI_I, cL_I, cA_I, cJ_I, cR_I, cN_I, cI_L, cL_L, cA_L, cJ_L, cR_L, cN_L, cI_A, cL_A, cA_A, cJ_A, cR_A, cN_A, cI_J, cL_J, cA_J, cJ_J, cR_J, cN_J, cI_R, cL_R, cA_R, cJ_R, cR_R, cN_R, cI_N, cL_N, cA_N, cJ_N, cR_N, cN_N, ↓reduceIte, Nat.reduceEqDiff, upd_at, updL_at, h1, h7, ec, h16, mIsFile]; rfl)
theorem c_Mod_numberOf (l : Launch) (G : GG) (a : AD) (c : CC) (m : MM) (o : OO) (x : Int32) : CT l G y_Mod_numberOf (.code y_Mod_numberOf b_Mod_numberOf 4 (some .int)) 0 0 0 Fno (wld G a c m o) [.ref (a 30 0), .int x] (fun r w2 => r = .inl (some (.int (mNum m x))) ∧ w2 = wld G a c m o) := by
  refine CT.of (by decide) (Nat.le_of_ble_eq_true rfl) rfl ?_
  intro E hl hG hF C r hw hex hnm
  subst hl; subst hG
  have lpd : ∀ (s : Nat) (y : Int32), s ≤ 8 → mNumD m x s y = mNum m x → AW E true 0 0 (wld (eG E) a c m o) 5 [(0, .ref (a 30 0)), (1, .int x), (2, .int y), (3, .int (dj s))] [] := by
    intro s
    induction s with
    | zero =>
      intro y h2s hx
      refine aw_iload_n (i := 3) C (dec D_Mod_numberOf rfl) rfl rfl ?_
      refine aw_if_lt (tgt := 40) C (dec D_Mod_numberOf rfl) (by decide) (fun hd => ?_) (fun hd => ?_)
      · try simp only [mI_I, mL_I, mA_I, mJ_I, mI_L, mL_L, mA_L, mJ_L, mI_A, mL_A, mA_A, mJ_A, mI_J, mL_J, mA_J, mJ_J, cI_I, cL_I, cA_I, cJ_I, cR_I, cN_I, cI_L, cL_L, cA_L, cJ_L, cR_L, cN_L, cI_A, cL_A, cA_A, cJ_A, cR_A, cN_A, cI_J, cL_J, cA_J, cJ_J, cR_J, cN_J, cI_R, cL_R, cA_R, cJ_R, cR_R, cN_R, cI_N, cL_N, cA_N, cJ_N, cR_N, cN_N, ↓reduceIte, Nat.reduceEqDiff, upd_at, updL_at] at hd
        refine aw_iload_n (i := 2) C (dec D_Mod_numberOf rfl) rfl rfl ?_
        refine aw_ret_i C r (dec D_Mod_numberOf rfl) rfl (by decide) (by decide) ?_
        exact ⟨by rw [← hx]; rfl, rfl⟩
      · try simp only [mI_I, mL_I, mA_I, mJ_I, mI_L, mL_L, mA_L, mJ_L, mI_A, mL_A, mA_A, mJ_A, mI_J, mL_J, mA_J, mJ_J, cI_I, cL_I, cA_I, cJ_I, cR_I, cN_I, cI_L, cL_L, cA_L, cJ_L, cR_L, cN_L, cI_A, cL_A, cA_A, cJ_A, cR_A, cN_A, cI_J, cL_J, cA_J, cJ_J, cR_J, cN_J, cI_R, cL_R, cA_R, cJ_R, cR_R, cN_R, cI_N, cL_N, cA_N, cJ_N, cR_N, cN_N, ↓reduceIte, Nat.reduceEqDiff, upd_at, updL_at] at hd
        exact absurd (by decide) hd
    | succ s ihd =>
      intro y h2s hx
      rw [dj_s]
      refine aw_iload_n (i := 3) C (dec D_Mod_numberOf rfl) rfl rfl ?_
      refine aw_if_lt (tgt := 40) C (dec D_Mod_numberOf rfl) (by decide) (fun hd => ?_) (fun hd => ?_)
      · try simp only [mI_I, mL_I, mA_I, mJ_I, mI_L, mL_L, mA_L, mJ_L, mI_A, mL_A, mA_A, mJ_A, mI_J, mL_J, mA_J, mJ_J, cI_I, cL_I, cA_I, cJ_I, cR_I, cN_I, cI_L, cL_L, cA_L, cJ_L, cR_L, cN_L, cI_A, cL_A, cA_A, cJ_A, cR_A, cN_A, cI_J, cL_J, cA_J, cJ_J, cR_J, cN_J, cI_R, cL_R, cA_R, cJ_R, cR_R, cN_R, cI_N, cL_N, cA_N, cJ_N, cR_N, cN_N, ↓reduceIte, Nat.reduceEqDiff, upd_at, updL_at] at hd
        exact absurd hd (nI_pos (by omega))
      · try simp only [mI_I, mL_I, mA_I, mJ_I, mI_L, mL_L, mA_L, mJ_L, mI_A, mL_A, mA_A, mJ_A, mI_J, mL_J, mA_J, mJ_J, cI_I, cL_I, cA_I, cJ_I, cR_I, cN_I, cI_L, cL_L, cA_L, cJ_L, cR_L, cN_L, cI_A, cL_A, cA_A, cJ_A, cR_A, cN_A, cI_J, cL_J, cA_J, cJ_J, cR_J, cN_J, cI_R, cL_R, cA_R, cJ_R, cR_R, cN_R, cI_N, cL_N, cA_N, cJ_N, cR_N, cN_N, ↓reduceIte, Nat.reduceEqDiff, upd_at, updL_at] at hd
        refine aw_aload_n (i := 0) C (dec D_Mod_numberOf rfl) rfl rfl ?_
        refine gf_Mod_25 C (dec D_Mod_numberOf rfl) ?_
        refine aw_iload_n (i := 3) C (dec D_Mod_numberOf rfl) rfl rfl ?_
        refine al_M3 C s (dec D_Mod_numberOf rfl) (ix_of (by omega)) ?_
        refine aw_if_eq (tgt := 32) C (dec D_Mod_numberOf rfl) (by decide) (fun h15 => ?_) (fun h15 => ?_)
        · try simp only [mI_I, mL_I, mA_I, mJ_I, mI_L, mL_L, mA_L, mJ_L, mI_A, mL_A, mA_A, mJ_A, mI_J, mL_J, mA_J, mJ_J, cI_I, cL_I, cA_I, cJ_I, cR_I, cN_I, cI_L, cL_L, cA_L, cJ_L, cR_L, cN_L, cI_A, cL_A, cA_A, cJ_A, cR_A, cN_A, cI_J, cL_J, cA_J, cJ_J, cR_J, cN_J, cI_R, cL_R, cA_R, cJ_R, cR_R, cN_R, cI_N, cL_N, cA_N, cJ_N, cR_N, cN_N, ↓reduceIte, Nat.reduceEqDiff, upd_at, updL_at] at h15
          refine aw_iload_n (i := 2) C (dec D_Mod_numberOf rfl) rfl rfl ?_
          refine aw_istore_n (i := 2) C (dec D_Mod_numberOf rfl) rfl (by decide) ?_
          refine aw_iinc C (dec D_Mod_numberOf rfl) rfl rfl (by decide) ?_
          refine aw_goto (tgt := 5) C (dec D_Mod_numberOf rfl) (by decide) ?_
          exact ihd y (by omega) (by rw [mNumD, if_pos h15] at hx; exact hx)
        · try simp only [mI_I, mL_I, mA_I, mJ_I, mI_L, mL_L, mA_L, mJ_L, mI_A, mL_A, mA_A, mJ_A, mI_J, mL_J, mA_J, mJ_J, cI_I, cL_I, cA_I, cJ_I, cR_I, cN_I, cI_L, cL_L, cA_L, cJ_L, cR_L, cN_L, cI_A, cL_A, cA_A, cJ_A, cR_A, cN_A, cI_J, cL_J, cA_J, cJ_J, cR_J, cN_J, cI_R, cL_R, cA_R, cJ_R, cR_R, cN_R, cI_N, cL_N, cA_N, cJ_N, cR_N, cN_N, ↓reduceIte, Nat.reduceEqDiff, upd_at, updL_at] at h15
          refine aw_aload_n (i := 0) C (dec D_Mod_numberOf rfl) rfl rfl ?_
          refine gf_Mod_25 C (dec D_Mod_numberOf rfl) ?_
          refine aw_iload_n (i := 3) C (dec D_Mod_numberOf rfl) rfl rfl ?_
          refine al_M3 C s (dec D_Mod_numberOf rfl) (ix_of (by omega)) ?_
          refine aw_iload_n (i := 1) C (dec D_Mod_numberOf rfl) rfl rfl ?_
          refine aw_icmp_ne (tgt := 32) C (dec D_Mod_numberOf rfl) (by decide) (fun h25 => ?_) (fun h25 => ?_)
          · try simp only [mI_I, mL_I, mA_I, mJ_I, mI_L, mL_L, mA_L, mJ_L, mI_A, mL_A, mA_A, mJ_A, mI_J, mL_J, mA_J, mJ_J, cI_I, cL_I, cA_I, cJ_I, cR_I, cN_I, cI_L, cL_L, cA_L, cJ_L, cR_L, cN_L, cI_A, cL_A, cA_A, cJ_A, cR_A, cN_A, cI_J, cL_J, cA_J, cJ_J, cR_J, cN_J, cI_R, cL_R, cA_R, cJ_R, cR_R, cN_R, cI_N, cL_N, cA_N, cJ_N, cR_N, cN_N, ↓reduceIte, Nat.reduceEqDiff, upd_at, updL_at] at h25
            refine aw_iload_n (i := 2) C (dec D_Mod_numberOf rfl) rfl rfl ?_
            refine aw_istore_n (i := 2) C (dec D_Mod_numberOf rfl) rfl (by decide) ?_
            refine aw_iinc C (dec D_Mod_numberOf rfl) rfl rfl (by decide) ?_
            refine aw_goto (tgt := 5) C (dec D_Mod_numberOf rfl) (by decide) ?_
            exact ihd y (by omega) (by rw [mNumD, if_neg h15, if_neg h25] at hx; exact hx)
          · try simp only [mI_I, mL_I, mA_I, mJ_I, mI_L, mL_L, mA_L, mJ_L, mI_A, mL_A, mA_A, mJ_A, mI_J, mL_J, mA_J, mJ_J, cI_I, cL_I, cA_I, cJ_I, cR_I, cN_I, cI_L, cL_L, cA_L, cJ_L, cR_L, cN_L, cI_A, cL_A, cA_A, cJ_A, cR_A, cN_A, cI_J, cL_J, cA_J, cJ_J, cR_J, cN_J, cI_R, cL_R, cA_R, cJ_R, cR_R, cN_R, cI_N, cL_N, cA_N, cJ_N, cR_N, cN_N, ↓reduceIte, Nat.reduceEqDiff, upd_at, updL_at] at h25
            refine aw_iload_n (i := 3) C (dec D_Mod_numberOf rfl) rfl rfl ?_
            refine aw_goto (tgt := 33) C (dec D_Mod_numberOf rfl) (by decide) ?_
            refine aw_istore_n (i := 2) C (dec D_Mod_numberOf rfl) rfl (by decide) ?_
            refine aw_iinc C (dec D_Mod_numberOf rfl) rfl rfl (by decide) ?_
            refine aw_goto (tgt := 5) C (dec D_Mod_numberOf rfl) (by decide) ?_
            exact ihd (nI s) (by omega) (by rw [mNumD, if_neg h15, if_pos h25] at hx; exact hx)
  refine aw_iconst (v := (-1)) C (dec D_Mod_numberOf rfl) (by decide) ?_
  refine aw_istore_n (i := 2) C (dec D_Mod_numberOf rfl) rfl (by decide) ?_
  refine aw_bipush (v := 7) C (dec D_Mod_numberOf rfl) (by decide) ?_
  refine aw_istore_n (i := 3) C (dec D_Mod_numberOf rfl) rfl (by decide) ?_
  exact lpd 8 (-1) (by omega) rfl
theorem c_Mod_create (l : Launch) (G : GG) (a : AD) (c : CC) (m : MM) (o : OO) (x : Int32) : CT l G y_Mod_create (.code y_Mod_create b_Mod_create 3 (some .int)) 1 0 0 (Fyes G) (wld G a c m o) [.ref (a 30 0), .int x] (fun r w2 => r = .inl (some (.int (mCreateR m x))) ∧ w2 = wld G a c (mCreate m x) o) := by
  refine CT.of (by decide) (Nat.le_of_ble_eq_true rfl) rfl ?_
  intro E hl hG hF C r hw hex hnm
  subst hl; subst hG
  have Fw : Cw E := fun a h => by rw [hF]; exact h
  have k55 : ∀ t, t = mSlot m → t ≤ 8 → AW E false 0 0 (wld (eG E) a c (smI m 0 (mCrC m x)) o) 55 [(0, .ref (a 30 0)), (1, .int x), (2, .int (nI t))] [] := by
    intro t ht ht8
    have e0 : mI (smI m 0 (mCrC m x)) 0 = mCrC m x := rfl
    have k80 : AW E false 0 0 (wld (eG E) a c (smI (smI m 0 (mCrC m x)) 0 (mCreC m x)) o) 80 [(0, .ref (a 30 0)), (1, .int x), (2, .int (nI t))] [] := by
      refine aw_aload_n (i := 0) C (dec D_Mod_create rfl) rfl rfl ?_
      refine gf_Mod_71 C (dec D_Mod_create rfl) ?_
      refine aw_if_le (tgt := 89) C (dec D_Mod_create rfl) (by decide) (fun h84 => ?_) (fun h84 => ?_)
      · try simp only [mI_I, mL_I, mA_I, mJ_I, mI_L, mL_L, mA_L, mJ_L, mI_A, mL_A, mA_A, mJ_A, mI_J, mL_J, mA_J, mJ_J, cI_I, cL_I, cA_I, cJ_I, cR_I, cN_I, cI_L, cL_L, cA_L, cJ_L, cR_L, cN_L, cI_A, cL_A, cA_A, cJ_A, cR_A, cN_A, cI_J, cL_J, cA_J, cJ_J, cR_J, cN_J, cI_R, cL_R, cA_R, cJ_R, cR_R, cN_R, cI_N, cL_N, cA_N, cJ_N, cR_N, cN_N, ↓reduceIte, Nat.reduceEqDiff, upd_at, updL_at] at h84
        have h8 : t < 8 := by
          refine Nat.lt_of_le_of_ne ht8 fun z => ?_
          have e1 : mCreC m x ≤ 0 := h84
          unfold mCreC at e1
          split at e1
          · rw [if_pos (ht ▸ z)] at e1; exact absurd e1 (by decide)
          · rename_i z1; unfold mCrC at z1 e1; revert z1 e1; split <;> intro z1 e1 <;> first | exact absurd e1 (by decide) | (revert z1 e1; split <;> intro z1 e1 <;> first | exact absurd e1 (by decide) | (revert z1 e1; split <;> intro z1 e1 <;> first | exact absurd e1 (by decide) | exact absurd rfl z1))
        refine aw_aload_n (i := 0) C (dec D_Mod_create rfl) rfl rfl ?_
        refine aw_iload_n (i := 2) C (dec D_Mod_create rfl) rfl rfl ?_
        refine aw_cv C ci_Mod_99 [_] (c_Mod_drop _ _ _ _ _ _ t h8) (dec D_Mod_create rfl) rcM rfl (fpW Fw) (Nat.le_of_ble_eq_true rfl) (by decide) ⟨by decide, by decide⟩ (fun v w2 hp => ?_) (fun _ _ h => by cases h.1)
        obtain ⟨hv, rfl⟩ := hp
        cases hv
        refine aw_aload_n (i := 0) C (dec D_Mod_create rfl) rfl rfl ?_
        refine gf_Mod_25 C (dec D_Mod_create rfl) ?_
        refine aw_iload_n (i := 2) C (dec D_Mod_create rfl) rfl rfl ?_
        refine aw_iload_n (i := 1) C (dec D_Mod_create rfl) rfl rfl ?_
        refine as_M3 C Fw t (dec D_Mod_create rfl) (ix_of h8) ?_
        refine aw_iload_n (i := 2) C (dec D_Mod_create rfl) rfl rfl ?_
        refine aw_ret_i C r (dec D_Mod_create rfl) rfl (by decide) (by decide) ?_
        subst ht; exact ⟨by rw [mCreateR, if_pos h84], by rw [mCreate, if_pos h84]; rfl⟩
      · try simp only [mI_I, mL_I, mA_I, mJ_I, mI_L, mL_L, mA_L, mJ_L, mI_A, mL_A, mA_A, mJ_A, mI_J, mL_J, mA_J, mJ_J, cI_I, cL_I, cA_I, cJ_I, cR_I, cN_I, cI_L, cL_L, cA_L, cJ_L, cR_L, cN_L, cI_A, cL_A, cA_A, cJ_A, cR_A, cN_A, cI_J, cL_J, cA_J, cJ_J, cR_J, cN_J, cI_R, cL_R, cA_R, cJ_R, cR_R, cN_R, cI_N, cL_N, cA_N, cJ_N, cR_N, cN_N, ↓reduceIte, Nat.reduceEqDiff, upd_at, updL_at] at h84
        refine aw_iconst (v := 0) C (dec D_Mod_create rfl) (by decide) ?_
        refine aw_ret_i C r (dec D_Mod_create rfl) rfl (by decide) (by decide) ?_
        exact ⟨by rw [mCreateR, if_neg h84], by rw [mCreate, if_neg h84]⟩
    refine aw_aload_n (i := 0) C (dec D_Mod_create rfl) rfl rfl ?_
    refine aw_aload_n (i := 0) C (dec D_Mod_create rfl) rfl rfl ?_
    refine gf_Mod_71 C (dec D_Mod_create rfl) ?_
    have e5 : ∀ v, v = mCreC m x → AW E false 0 0 (wld (eG E) a c (smI m 0 (mCrC m x)) o) 77 [(0, .ref (a 30 0)), (1, .int x), (2, .int (nI t))] [.int v, .ref (a 30 0)] := by
      intro v hv; subst hv
      refine pf_Mod_71 C Fw (dec D_Mod_create rfl) ?_
      exact k80
    refine aw_if_ne (tgt := 73) C (dec D_Mod_create rfl) (by decide) (fun h60 => ?_) (fun h60 => ?_)
    · try simp only [mI_I, mL_I, mA_I, mJ_I, mI_L, mL_L, mA_L, mJ_L, mI_A, mL_A, mA_A, mJ_A, mI_J, mL_J, mA_J, mJ_J, cI_I, cL_I, cA_I, cJ_I, cR_I, cN_I, cI_L, cL_L, cA_L, cJ_L, cR_L, cN_L, cI_A, cL_A, cA_A, cJ_A, cR_A, cN_A, cI_J, cL_J, cA_J, cJ_J, cR_J, cN_J, cI_R, cL_R, cA_R, cJ_R, cR_R, cN_R, cI_N, cL_N, cA_N, cJ_N, cR_N, cN_N, ↓reduceIte, Nat.reduceEqDiff, upd_at, updL_at] at h60
      refine aw_aload_n (i := 0) C (dec D_Mod_create rfl) rfl rfl ?_
      refine gf_Mod_71 C (dec D_Mod_create rfl) ?_
      exact e5 _ (by rw [mCreC, if_neg h60]; rfl)
    · try simp only [mI_I, mL_I, mA_I, mJ_I, mI_L, mL_L, mA_L, mJ_L, mI_A, mL_A, mA_A, mJ_A, mI_J, mL_J, mA_J, mJ_J, cI_I, cL_I, cA_I, cJ_I, cR_I, cN_I, cI_L, cL_L, cA_L, cJ_L, cR_L, cN_L, cI_A, cL_A, cA_A, cJ_A, cR_A, cN_A, cI_J, cL_J, cA_J, cJ_J, cR_J, cN_J, cI_R, cL_R, cA_R, cJ_R, cR_R, cN_R, cI_N, cL_N, cA_N, cJ_N, cR_N, cN_N, ↓reduceIte, Nat.reduceEqDiff, upd_at, updL_at] at h60
      refine aw_iload_n (i := 2) C (dec D_Mod_create rfl) rfl rfl ?_
      refine aw_bipush (v := 8) C (dec D_Mod_create rfl) (by decide) ?_
      refine aw_icmp_ne (tgt := 73) C (dec D_Mod_create rfl) (by decide) (fun h66 => ?_) (fun h66 => ?_)
      · try simp only [mI_I, mL_I, mA_I, mJ_I, mI_L, mL_L, mA_L, mJ_L, mI_A, mL_A, mA_A, mJ_A, mI_J, mL_J, mA_J, mJ_J, cI_I, cL_I, cA_I, cJ_I, cR_I, cN_I, cI_L, cL_L, cA_L, cJ_L, cR_L, cN_L, cI_A, cL_A, cA_A, cJ_A, cR_A, cN_A, cI_J, cL_J, cA_J, cJ_J, cR_J, cN_J, cI_R, cL_R, cA_R, cJ_R, cR_R, cN_R, cI_N, cL_N, cA_N, cJ_N, cR_N, cN_N, ↓reduceIte, Nat.reduceEqDiff, upd_at, updL_at] at h66
        refine aw_aload_n (i := 0) C (dec D_Mod_create rfl) rfl rfl ?_
        refine gf_Mod_71 C (dec D_Mod_create rfl) ?_
        exact e5 _ (by rw [mCreC, if_pos h60, if_neg (fun z => h66 (by rw [ht, z]; rfl))]; exact h60)
      · try simp only [mI_I, mL_I, mA_I, mJ_I, mI_L, mL_L, mA_L, mJ_L, mI_A, mL_A, mA_A, mJ_A, mI_J, mL_J, mA_J, mJ_J, cI_I, cL_I, cA_I, cJ_I, cR_I, cN_I, cI_L, cL_L, cA_L, cJ_L, cR_L, cN_L, cI_A, cL_A, cA_A, cJ_A, cR_A, cN_A, cI_J, cL_J, cA_J, cJ_J, cR_J, cN_J, cI_R, cL_R, cA_R, cJ_R, cR_R, cN_R, cI_N, cL_N, cA_N, cJ_N, cR_N, cN_N, ↓reduceIte, Nat.reduceEqDiff, upd_at, updL_at] at h66
        refine aw_iconst (v := 3) C (dec D_Mod_create rfl) (by decide) ?_
        refine aw_goto (tgt := 77) C (dec D_Mod_create rfl) (by decide) ?_
        exact e5 _ (by rw [mCreC, if_pos h60, if_pos (ht ▸ (nI_eq (a := t) (b := 8) (by omega) (by omega)).mp h66)])
  have lp : ∀ (n t : Nat) , 8 - t < n → t ≤ 8 → mSlotD m (8 - t) t = mSlot m → AW E false 0 0 (wld (eG E) a c (smI m 0 (mCrC m x)) o) 34 [(0, .ref (a 30 0)), (1, .int x), (2, .int (nI t))] [] := by
    intro n
    induction n with
    | zero => intro t  h1 h2 hx; omega
    | succ n ih =>
      intro t  h1t h2t hx
      refine aw_iload_n (i := 2) C (dec D_Mod_create rfl) rfl rfl ?_
      refine aw_bipush (v := 8) C (dec D_Mod_create rfl) (by decide) ?_
      refine aw_icmp_ge (tgt := 55) C (dec D_Mod_create rfl) (by decide) (fun hb => ?_) (fun hb => ?_)
      · try simp only [mI_I, mL_I, mA_I, mJ_I, mI_L, mL_L, mA_L, mJ_L, mI_A, mL_A, mA_A, mJ_A, mI_J, mL_J, mA_J, mJ_J, cI_I, cL_I, cA_I, cJ_I, cR_I, cN_I, cI_L, cL_L, cA_L, cJ_L, cR_L, cN_L, cI_A, cL_A, cA_A, cJ_A, cR_A, cN_A, cI_J, cL_J, cA_J, cJ_J, cR_J, cN_J, cI_R, cL_R, cA_R, cJ_R, cR_R, cN_R, cI_N, cL_N, cA_N, cJ_N, cR_N, cN_N, ↓reduceIte, Nat.reduceEqDiff, upd_at, updL_at] at hb
        have e9 : t = 8 := by have := ix_ge (N := 8) hb; omega
        subst e9
        exact k55 8 hx (by omega)
      · try simp only [mI_I, mL_I, mA_I, mJ_I, mI_L, mL_L, mA_L, mJ_L, mI_A, mL_A, mA_A, mJ_A, mI_J, mL_J, mA_J, mJ_J, cI_I, cL_I, cA_I, cJ_I, cR_I, cN_I, cI_L, cL_L, cA_L, cJ_L, cR_L, cN_L, cI_A, cL_A, cA_A, cJ_A, cR_A, cN_A, cI_J, cL_J, cA_J, cJ_J, cR_J, cN_J, cI_R, cL_R, cA_R, cJ_R, cR_R, cN_R, cI_N, cL_N, cA_N, cJ_N, cR_N, cN_N, ↓reduceIte, Nat.reduceEqDiff, upd_at, updL_at] at hb
        have htt : t < 8 := ix_lt (N := 8) hb
        refine aw_aload_n (i := 0) C (dec D_Mod_create rfl) rfl rfl ?_
        refine gf_Mod_25 C (dec D_Mod_create rfl) ?_
        refine aw_iload_n (i := 2) C (dec D_Mod_create rfl) rfl rfl ?_
        refine al_M3 C t (dec D_Mod_create rfl) (ix_of htt) ?_
        refine aw_if_eq (tgt := 55) C (dec D_Mod_create rfl) (by decide) (fun h46 => ?_) (fun h46 => ?_)
        · try simp only [mI_I, mL_I, mA_I, mJ_I, mI_L, mL_L, mA_L, mJ_L, mI_A, mL_A, mA_A, mJ_A, mI_J, mL_J, mA_J, mJ_J, cI_I, cL_I, cA_I, cJ_I, cR_I, cN_I, cI_L, cL_L, cA_L, cJ_L, cR_L, cN_L, cI_A, cL_A, cA_A, cJ_A, cR_A, cN_A, cI_J, cL_J, cA_J, cJ_J, cR_J, cN_J, cI_R, cL_R, cA_R, cJ_R, cR_R, cN_R, cI_N, cL_N, cA_N, cJ_N, cR_N, cN_N, ↓reduceIte, Nat.reduceEqDiff, upd_at, updL_at] at h46
          exact k55 t (by rw [← hx, show 8 - t = 7 - t + 1 by omega, mSlotD, if_pos h46]) (by omega)
        · try simp only [mI_I, mL_I, mA_I, mJ_I, mI_L, mL_L, mA_L, mJ_L, mI_A, mL_A, mA_A, mJ_A, mI_J, mL_J, mA_J, mJ_J, cI_I, cL_I, cA_I, cJ_I, cR_I, cN_I, cI_L, cL_L, cA_L, cJ_L, cR_L, cN_L, cI_A, cL_A, cA_A, cJ_A, cR_A, cN_A, cI_J, cL_J, cA_J, cJ_J, cR_J, cN_J, cI_R, cL_R, cA_R, cJ_R, cR_R, cN_R, cI_N, cL_N, cA_N, cJ_N, cR_N, cN_N, ↓reduceIte, Nat.reduceEqDiff, upd_at, updL_at] at h46
          refine aw_iinc C (dec D_Mod_create rfl) rfl (nI_inc t) (by decide) ?_
          refine aw_goto (tgt := 34) C (dec D_Mod_create rfl) (by decide) ?_
          exact ih (t + 1) (by omega) (by omega) (by rw [← hx, show 8 - t = 7 - t + 1 by omega, mSlotD, if_neg h46, show 7 - t = 8 - (t + 1) by omega])
  have k29 : ∀ v, v = mCrC m x → AW E false 0 0 (wld (eG E) a c m o) 29 [(0, .ref (a 30 0)), (1, .int x)] [.int v, .ref (a 30 0)] := by
    intro v hv; subst hv
    refine pf_Mod_71 C Fw (dec D_Mod_create rfl) ?_
    refine aw_iconst (v := 0) C (dec D_Mod_create rfl) (by decide) ?_
    refine aw_istore_n (i := 2) C (dec D_Mod_create rfl) rfl (by decide) ?_
    exact lp 9 0 (by omega) (by omega) rfl
  refine aw_aload_n (i := 0) C (dec D_Mod_create rfl) rfl rfl ?_
  refine aw_aload_n (i := 0) C (dec D_Mod_create rfl) rfl rfl ?_
  refine aw_cv C ci_Mod_160 [] (c_Mod_isReady _ _ _ _ _ _) (dec D_Mod_create rfl) rcM rfl fpP (Nat.le_of_ble_eq_true rfl) (by decide) ⟨by decide, by decide⟩ (fun v w2 hp => ?_) (fun _ _ h => by cases h.1)
  obtain ⟨hv, rfl⟩ := hp
  cases hv
  refine aw_if_ne (tgt := 12) C (dec D_Mod_create rfl) (by decide) (fun h5 => ?_) (fun h5 => ?_)
  · try simp only [mI_I, mL_I, mA_I, mJ_I, mI_L, mL_L, mA_L, mJ_L, mI_A, mL_A, mA_A, mJ_A, mI_J, mL_J, mA_J, mJ_J, cI_I, cL_I, cA_I, cJ_I, cR_I, cN_I, cI_L, cL_L, cA_L, cJ_L, cR_L, cN_L, cI_A, cL_A, cA_A, cJ_A, cR_A, cN_A, cI_J, cL_J, cA_J, cJ_J, cR_J, cN_J, cI_R, cL_R, cA_R, cJ_R, cR_R, cN_R, cI_N, cL_N, cA_N, cJ_N, cR_N, cN_N, ↓reduceIte, Nat.reduceEqDiff, upd_at, updL_at] at h5
    refine aw_iload_n (i := 1) C (dec D_Mod_create rfl) rfl rfl ?_
    refine aw_if_eq (tgt := 24) C (dec D_Mod_create rfl) (by decide) (fun h13 => ?_) (fun h13 => ?_)
    · try simp only [mI_I, mL_I, mA_I, mJ_I, mI_L, mL_L, mA_L, mJ_L, mI_A, mL_A, mA_A, mJ_A, mI_J, mL_J, mA_J, mJ_J, cI_I, cL_I, cA_I, cJ_I, cR_I, cN_I, cI_L, cL_L, cA_L, cJ_L, cR_L, cN_L, cI_A, cL_A, cA_A, cJ_A, cR_A, cN_A, cI_J, cL_J, cA_J, cJ_J, cR_J, cN_J, cI_R, cL_R, cA_R, cJ_R, cR_R, cN_R, cI_N, cL_N, cA_N, cJ_N, cR_N, cN_N, ↓reduceIte, Nat.reduceEqDiff, upd_at, updL_at] at h13
      refine aw_iconst (v := 2) C (dec D_Mod_create rfl) (by decide) ?_
      refine aw_goto (tgt := 29) C (dec D_Mod_create rfl) (by decide) ?_
      exact AW.impure (k29 _ (by simp [mCrC, h5, h13]))
    · try simp only [mI_I, mL_I, mA_I, mJ_I, mI_L, mL_L, mA_L, mJ_L, mI_A, mL_A, mA_A, mJ_A, mI_J, mL_J, mA_J, mJ_J, cI_I, cL_I, cA_I, cJ_I, cR_I, cN_I, cI_L, cL_L, cA_L, cJ_L, cR_L, cN_L, cI_A, cL_A, cA_A, cJ_A, cR_A, cN_A, cI_J, cL_J, cA_J, cJ_J, cR_J, cN_J, cI_R, cL_R, cA_R, cJ_R, cR_R, cN_R, cI_N, cL_N, cA_N, cJ_N, cR_N, cN_N, ↓reduceIte, Nat.reduceEqDiff, upd_at, updL_at] at h13
      refine aw_aload_n (i := 0) C (dec D_Mod_create rfl) rfl rfl ?_
      refine aw_iload_n (i := 1) C (dec D_Mod_create rfl) rfl rfl ?_
      refine aw_cv C ci_Mod_163 [_] (c_Mod_numberOf _ _ _ _ _ _ _) (dec D_Mod_create rfl) rcM rfl fpP (Nat.le_of_ble_eq_true rfl) (by decide) ⟨by decide, by decide⟩ (fun v w2 hp => ?_) (fun _ _ h => by cases h.1)
      obtain ⟨hv, rfl⟩ := hp
      cases hv
      refine aw_if_lt (tgt := 28) C (dec D_Mod_create rfl) (by decide) (fun h21 => ?_) (fun h21 => ?_)
      · try simp only [mI_I, mL_I, mA_I, mJ_I, mI_L, mL_L, mA_L, mJ_L, mI_A, mL_A, mA_A, mJ_A, mI_J, mL_J, mA_J, mJ_J, cI_I, cL_I, cA_I, cJ_I, cR_I, cN_I, cI_L, cL_L, cA_L, cJ_L, cR_L, cN_L, cI_A, cL_A, cA_A, cJ_A, cR_A, cN_A, cI_J, cL_J, cA_J, cJ_J, cR_J, cN_J, cI_R, cL_R, cA_R, cJ_R, cR_R, cN_R, cI_N, cL_N, cA_N, cJ_N, cR_N, cN_N, ↓reduceIte, Nat.reduceEqDiff, upd_at, updL_at] at h21
        refine aw_iconst (v := 0) C (dec D_Mod_create rfl) (by decide) ?_
        exact AW.impure (k29 _ (by simp [mCrC, h5, h13, h21]))
      · try simp only [mI_I, mL_I, mA_I, mJ_I, mI_L, mL_L, mA_L, mJ_L, mI_A, mL_A, mA_A, mJ_A, mI_J, mL_J, mA_J, mJ_J, cI_I, cL_I, cA_I, cJ_I, cR_I, cN_I, cI_L, cL_L, cA_L, cJ_L, cR_L, cN_L, cI_A, cL_A, cA_A, cJ_A, cR_A, cN_A, cI_J, cL_J, cA_J, cJ_J, cR_J, cN_J, cI_R, cL_R, cA_R, cJ_R, cR_R, cN_R, cI_N, cL_N, cA_N, cJ_N, cR_N, cN_N, ↓reduceIte, Nat.reduceEqDiff, upd_at, updL_at] at h21
        refine aw_iconst (v := 2) C (dec D_Mod_create rfl) (by decide) ?_
        refine aw_goto (tgt := 29) C (dec D_Mod_create rfl) (by decide) ?_
        exact AW.impure (k29 _ (by simp [mCrC, h5, h13, h21]))
  · try simp only [mI_I, mL_I, mA_I, mJ_I, mI_L, mL_L, mA_L, mJ_L, mI_A, mL_A, mA_A, mJ_A, mI_J, mL_J, mA_J, mJ_J, cI_I, cL_I, cA_I, cJ_I, cR_I, cN_I, cI_L, cL_L, cA_L, cJ_L, cR_L, cN_L, cI_A, cL_A, cA_A, cJ_A, cR_A, cN_A, cI_J, cL_J, cA_J, cJ_J, cR_J, cN_J, cI_R, cL_R, cA_R, cJ_R, cR_R, cN_R, cI_N, cL_N, cA_N, cJ_N, cR_N, cN_N, ↓reduceIte, Nat.reduceEqDiff, upd_at, updL_at] at h5
    refine aw_iconst (v := 1) C (dec D_Mod_create rfl) (by decide) ?_
    refine aw_goto (tgt := 29) C (dec D_Mod_create rfl) (by decide) ?_
    exact AW.impure (k29 _ (by simp [mCrC, h5]))
theorem c_Mod_find (l : Launch) (G : GG) (a : AD) (c : CC) (m : MM) (o : OO) (x : Int32) : CT l G y_Mod_find (.code y_Mod_find b_Mod_find 2 (some .int)) 1 0 0 (Fyes G) (wld G a c m o) [.ref (a 30 0), .int x] (fun r w2 => r = .inl (some (.int (mFindR m x))) ∧ w2 = wld G a c (mFind m) o) := by
  refine CT.of (by decide) (Nat.le_of_ble_eq_true rfl) rfl ?_
  intro E hl hG hF C r hw hex hnm
  subst hl; subst hG
  have Fw : Cw E := fun a h => by rw [hF]; exact h
  refine aw_aload_n (i := 0) C (dec D_Mod_find rfl) rfl rfl ?_
  refine aw_aload_n (i := 0) C (dec D_Mod_find rfl) rfl rfl ?_
  refine aw_cv C ci_Mod_160 [] (c_Mod_isReady _ _ _ _ _ _) (dec D_Mod_find rfl) rcM rfl fpP (Nat.le_of_ble_eq_true rfl) (by decide) ⟨by decide, by decide⟩ (fun v w2 hp => ?_) (fun _ _ h => by cases h.1)
  obtain ⟨hv, rfl⟩ := hp
  cases hv
  refine aw_if_eq (tgt := 12) C (dec D_Mod_find rfl) (by decide) (fun h5 => ?_) (fun h5 => ?_)
  · try simp only [mI_I, mL_I, mA_I, mJ_I, mI_L, mL_L, mA_L, mJ_L, mI_A, mL_A, mA_A, mJ_A, mI_J, mL_J, mA_J, mJ_J, cI_I, cL_I, cA_I, cJ_I, cR_I, cN_I, cI_L, cL_L, cA_L, cJ_L, cR_L, cN_L, cI_A, cL_A, cA_A, cJ_A, cR_A, cN_A, cI_J, cL_J, cA_J, cJ_J, cR_J, cN_J, cI_R, cL_R, cA_R, cJ_R, cR_R, cN_R, cI_N, cL_N, cA_N, cJ_N, cR_N, cN_N, ↓reduceIte, Nat.reduceEqDiff, upd_at, updL_at] at h5
    refine aw_iconst (v := 1) C (dec D_Mod_find rfl) (by decide) ?_
    refine pf_Mod_71 C Fw (dec D_Mod_find rfl) ?_
    refine aw_aload_n (i := 0) C (dec D_Mod_find rfl) rfl rfl ?_
    refine gf_Mod_71 C (dec D_Mod_find rfl) ?_
    refine aw_if_le (tgt := 27) C (dec D_Mod_find rfl) (by decide) (fun h_ => absurd h_ (show ¬ (1 : Int32) ≤ (0 : Int32) by decide)) (fun _ => ?_)
    refine aw_iconst (v := 0) C (dec D_Mod_find rfl) (by decide) ?_
    refine aw_goto (tgt := 32) C (dec D_Mod_find rfl) (by decide) ?_
    refine aw_ret_i C r (dec D_Mod_find rfl) rfl (by decide) (by decide) ?_
    refine ⟨?_, ?_⟩ <;> first | rfl | (simp [mI_I, mL_I, mA_I, mJ_I, mI_L, mL_L, mA_L, mJ_L, mI_A, mL_A, mA_A, mJ_A, mI_J, mL_J, mA_J, mJ_J, cI_I, cL_I, cA_I, cJ_I, cR_I, cN_I, cI_L, cL_L, cA_L, cJ_L, cR_L, cN_L, cI_A, cL_A, cA_A, cJ_A, cR_A, cN_A, cI_J, cL_J, cA_J, cJ_J, cR_J, cN_J, cI_R, cL_R, cA_R, cJ_R, cR_R, cN_R, cI_N, cL_N, cA_N, cJ_N, cR_N, cN_N, ↓reduceIte, Nat.reduceEqDiff, upd_at, updL_at, h5, mFind, mFindR]; done) | (simp [mI_I, mL_I, mA_I, mJ_I, mI_L, mL_L, mA_L, mJ_L, mI_A, mL_A, mA_A, mJ_A, mI_J, mL_J, mA_J, mJ_J, cI_I, cL_I, cA_I, cJ_I, cR_I, cN_I, cI_L, cL_L, cA_L, cJ_L, cR_L, cN_L, cI_A, cL_A, cA_A, cJ_A, cR_A, cN_A, cI_J, cL_J, cA_J, cJ_J, cR_J, cN_J, cI_R, cL_R, cA_R, cJ_R, cR_R, cN_R, cI_N, cL_N, cA_N, cJ_N, cR_N, cN_N, ↓reduceIte, Nat.reduceEqDiff, upd_at, updL_at, h5, mFind, mFindR]; rfl)
  · try simp only [mI_I, mL_I, mA_I, mJ_I, mI_L, mL_L, mA_L, mJ_L, mI_A, mL_A, mA_A, mJ_A, mI_J, mL_J, mA_J, mJ_J, cI_I, cL_I, cA_I, cJ_I, cR_I, cN_I, cI_L, cL_L, cA_L, cJ_L, cR_L, cN_L, cI_A, cL_A, cA_A, cJ_A, cR_A, cN_A, cI_J, cL_J, cA_J, cJ_J, cR_J, cN_J, cI_R, cL_R, cA_R, cJ_R, cR_R, cN_R, cI_N, cL_N, cA_N, cJ_N, cR_N, cN_N, ↓reduceIte, Nat.reduceEqDiff, upd_at, updL_at] at h5
    refine aw_iconst (v := 0) C (dec D_Mod_find rfl) (by decide) ?_
    refine aw_goto (tgt := 13) C (dec D_Mod_find rfl) (by decide) ?_
    refine pf_Mod_71 C Fw (dec D_Mod_find rfl) ?_
    refine aw_aload_n (i := 0) C (dec D_Mod_find rfl) rfl rfl ?_
    refine gf_Mod_71 C (dec D_Mod_find rfl) ?_
    refine aw_if_le (tgt := 27) C (dec D_Mod_find rfl) (by decide) (fun _ => ?_) (fun h_ => absurd (show (0 : Int32) ≤ (0 : Int32) by decide) h_)
    refine aw_aload_n (i := 0) C (dec D_Mod_find rfl) rfl rfl ?_
    refine aw_iload_n (i := 1) C (dec D_Mod_find rfl) rfl rfl ?_
    refine aw_cv C ci_Mod_163 [_] (c_Mod_numberOf _ _ _ _ _ _ _) (dec D_Mod_find rfl) rcM rfl fpP (Nat.le_of_ble_eq_true rfl) (by decide) ⟨by decide, by decide⟩ (fun v w2 hp => ?_) (fun _ _ h => by cases h.1)
    obtain ⟨hv, rfl⟩ := hp
    cases hv
    refine aw_ret_i C r (dec D_Mod_find rfl) rfl (by decide) (by decide) ?_
    refine ⟨?_, ?_⟩ <;> first | rfl | (simp [mI_I, mL_I, mA_I, mJ_I, mI_L, mL_L, mA_L, mJ_L, mI_A, mL_A, mA_A, mJ_A, mI_J, mL_J, mA_J, mJ_J, cI_I, cL_I, cA_I, cJ_I, cR_I, cN_I, cI_L, cL_L, cA_L, cJ_L, cR_L, cN_L, cI_A, cL_A, cA_A, cJ_A, cR_A, cN_A, cI_J, cL_J, cA_J, cJ_J, cR_J, cN_J, cI_R, cL_R, cA_R, cJ_R, cR_R, cN_R, cI_N, cL_N, cA_N, cJ_N, cR_N, cN_N, ↓reduceIte, Nat.reduceEqDiff, upd_at, updL_at, h5, mFind, mFindR]; done) | (simp [mI_I, mL_I, mA_I, mJ_I, mI_L, mL_L, mA_L, mJ_L, mI_A, mL_A, mA_A, mJ_A, mI_J, mL_J, mA_J, mJ_J, cI_I, cL_I, cA_I, cJ_I, cR_I, cN_I, cI_L, cL_L, cA_L, cJ_L, cR_L, cN_L, cI_A, cL_A, cA_A, cJ_A, cR_A, cN_A, cI_J, cL_J, cA_J, cJ_J, cR_J, cN_J, cI_R, cL_R, cA_R, cJ_R, cR_R, cN_R, cI_N, cL_N, cA_N, cJ_N, cR_N, cN_N, ↓reduceIte, Nat.reduceEqDiff, upd_at, updL_at, h5, mFind, mFindR]; rfl)
theorem c_Mod_length (l : Launch) (G : GG) (a : AD) (c : CC) (m : MM) (o : OO) (x : Int32) : CT l G y_Mod_length (.code y_Mod_length b_Mod_length 2 (some .int)) 1 0 0 (Fyes G) (wld G a c m o) [.ref (a 30 0), .int x] (fun r w2 => r = .inl (some (.int (mLengthR m x))) ∧ w2 = wld G a c (smI m 0 (mGate m x)) o) := by
  refine CT.of (by decide) (Nat.le_of_ble_eq_true rfl) rfl ?_
  intro E hl hG hF C r hw hex hnm
  subst hl; subst hG
  have Fw : Cw E := fun a h => by rw [hF]; exact h
  refine aw_aload_n (i := 0) C (dec D_Mod_length rfl) rfl rfl ?_
  refine aw_aload_n (i := 0) C (dec D_Mod_length rfl) rfl rfl ?_
  refine aw_cv C ci_Mod_160 [] (c_Mod_isReady _ _ _ _ _ _) (dec D_Mod_length rfl) rcM rfl fpP (Nat.le_of_ble_eq_true rfl) (by decide) ⟨by decide, by decide⟩ (fun v w2 hp => ?_) (fun _ _ h => by cases h.1)
  obtain ⟨hv, rfl⟩ := hp
  cases hv
  refine aw_if_ne (tgt := 12) C (dec D_Mod_length rfl) (by decide) (fun h5 => ?_) (fun h5 => ?_)
  · try simp only [mI_I, mL_I, mA_I, mJ_I, mI_L, mL_L, mA_L, mJ_L, mI_A, mL_A, mA_A, mJ_A, mI_J, mL_J, mA_J, mJ_J, cI_I, cL_I, cA_I, cJ_I, cR_I, cN_I, cI_L, cL_L, cA_L, cJ_L, cR_L, cN_L, cI_A, cL_A, cA_A, cJ_A, cR_A, cN_A, cI_J, cL_J, cA_J, cJ_J, cR_J, cN_J, cI_R, cL_R, cA_R, cJ_R, cR_R, cN_R, cI_N, cL_N, cA_N, cJ_N, cR_N, cN_N, ↓reduceIte, Nat.reduceEqDiff, upd_at, updL_at] at h5
    refine aw_aload_n (i := 0) C (dec D_Mod_length rfl) rfl rfl ?_
    refine aw_iload_n (i := 1) C (dec D_Mod_length rfl) rfl rfl ?_
    refine aw_cv C ci_Mod_166 [_] (c_Mod_isFile _ _ _ _ _ _ _) (dec D_Mod_length rfl) rcM rfl fpP (Nat.le_of_ble_eq_true rfl) (by decide) ⟨by decide, by decide⟩ (fun v w2 hp => ?_) (fun _ _ h => by cases h.1)
    obtain ⟨hv, rfl⟩ := hp
    cases hv
    refine aw_if_eq (tgt := 24) C (dec D_Mod_length rfl) (by decide) (fun h17 => ?_) (fun h17 => ?_)
    · try simp only [mI_I, mL_I, mA_I, mJ_I, mI_L, mL_L, mA_L, mJ_L, mI_A, mL_A, mA_A, mJ_A, mI_J, mL_J, mA_J, mJ_J, cI_I, cL_I, cA_I, cJ_I, cR_I, cN_I, cI_L, cL_L, cA_L, cJ_L, cR_L, cN_L, cI_A, cL_A, cA_A, cJ_A, cR_A, cN_A, cI_J, cL_J, cA_J, cJ_J, cR_J, cN_J, cI_R, cL_R, cA_R, cJ_R, cR_R, cN_R, cI_N, cL_N, cA_N, cJ_N, cR_N, cN_N, ↓reduceIte, Nat.reduceEqDiff, upd_at, updL_at] at h17
      refine aw_iconst (v := 2) C (dec D_Mod_length rfl) (by decide) ?_
      refine pf_Mod_71 C Fw (dec D_Mod_length rfl) ?_
      refine aw_aload_n (i := 0) C (dec D_Mod_length rfl) rfl rfl ?_
      refine gf_Mod_71 C (dec D_Mod_length rfl) ?_
      refine aw_if_le (tgt := 39) C (dec D_Mod_length rfl) (by decide) (fun h_ => absurd h_ (show ¬ (2 : Int32) ≤ (0 : Int32) by decide)) (fun _ => ?_)
      refine aw_iconst (v := 0) C (dec D_Mod_length rfl) (by decide) ?_
      refine aw_goto (tgt := 45) C (dec D_Mod_length rfl) (by decide) ?_
      refine aw_ret_i C r (dec D_Mod_length rfl) rfl (by decide) (by decide) ?_
      refine ⟨?_, ?_⟩ <;> first | rfl | (simp [mI_I, mL_I, mA_I, mJ_I, mI_L, mL_L, mA_L, mJ_L, mI_A, mL_A, mA_A, mJ_A, mI_J, mL_J, mA_J, mJ_J, cI_I, cL_I, cA_I, cJ_I, cR_I, cN_I, cI_L, cL_L, cA_L, cJ_L, cR_L, cN_L, cI_A, cL_A, cA_A, cJ_A, cR_A, cN_A, cI_J, cL_J, cA_J, cJ_J, cR_J, cN_J, cI_R, cL_R, cA_R, cJ_R, cR_R, cN_R, cI_N, cL_N, cA_N, cJ_N, cR_N, cN_N, ↓reduceIte, Nat.reduceEqDiff, upd_at, updL_at, h5, h17, mLengthR, mGate]; done) | (simp [mI_I, mL_I, mA_I, mJ_I, mI_L, mL_L, mA_L, mJ_L, mI_A, mL_A, mA_A, mJ_A, mI_J, mL_J, mA_J, mJ_J, cI_I, cL_I, cA_I, cJ_I, cR_I, cN_I, cI_L, cL_L, cA_L, cJ_L, cR_L, cN_L, cI_A, cL_A, cA_A, cJ_A, cR_A, cN_A, cI_J, cL_J, cA_J, cJ_J, cR_J, cN_J, cI_R, cL_R, cA_R, cJ_R, cR_R, cN_R, cI_N, cL_N, cA_N, cJ_N, cR_N, cN_N, ↓reduceIte, Nat.reduceEqDiff, upd_at, updL_at, h5, h17, mLengthR, mGate]; rfl)
    · try simp only [mI_I, mL_I, mA_I, mJ_I, mI_L, mL_L, mA_L, mJ_L, mI_A, mL_A, mA_A, mJ_A, mI_J, mL_J, mA_J, mJ_J, cI_I, cL_I, cA_I, cJ_I, cR_I, cN_I, cI_L, cL_L, cA_L, cJ_L, cR_L, cN_L, cI_A, cL_A, cA_A, cJ_A, cR_A, cN_A, cI_J, cL_J, cA_J, cJ_J, cR_J, cN_J, cI_R, cL_R, cA_R, cJ_R, cR_R, cN_R, cI_N, cL_N, cA_N, cJ_N, cR_N, cN_N, ↓reduceIte, Nat.reduceEqDiff, upd_at, updL_at] at h17
      refine aw_iconst (v := 0) C (dec D_Mod_length rfl) (by decide) ?_
      refine aw_goto (tgt := 25) C (dec D_Mod_length rfl) (by decide) ?_
      refine pf_Mod_71 C Fw (dec D_Mod_length rfl) ?_
      refine aw_aload_n (i := 0) C (dec D_Mod_length rfl) rfl rfl ?_
      refine gf_Mod_71 C (dec D_Mod_length rfl) ?_
      refine aw_if_le (tgt := 39) C (dec D_Mod_length rfl) (by decide) (fun _ => ?_) (fun h_ => absurd (show (0 : Int32) ≤ (0 : Int32) by decide) h_)
      obtain ⟨t, ht, rfl, hnm⟩ := mIsFile_rng h17
      have ec := nI_clamp (n := t) (by omega)
      refine aw_aload_n (i := 0) C (dec D_Mod_length rfl) rfl rfl ?_
      refine gf_Mod_29 C (dec D_Mod_length rfl) ?_
      refine aw_iload_n (i := 1) C (dec D_Mod_length rfl) rfl rfl ?_
      refine al_M4 C t (dec D_Mod_length rfl) (ix_of ht) ?_
      refine aw_ret_i C r (dec D_Mod_length rfl) rfl (by decide) (by decide) ?_
      refine ⟨?_, ?_⟩ <;> first | rfl | (simp [mI_I, mL_I, mA_I, mJ_I, mI_L, mL_L, mA_L, mJ_L, mI_A, mL_A, mA_A, mJ_A, mI_J, mL_J, mA_J, mJ_J, cI_I, cL_I, cA_I, cJ_I, cR_I, cN_I, cI_L, cL_L, cA_L, cJ_L, cR_L, cN_L, cI_A, cL_A, cA_A, cJ_A, cR_A, cN_A, cI_J, cL_J, cA_J, cJ_J, cR_J, cN_J, cI_R, cL_R, cA_R, cJ_R, cR_R, cN_R, cI_N, cL_N, cA_N, cJ_N, cR_N, cN_N, ↓reduceIte, Nat.reduceEqDiff, upd_at, updL_at, h5, h17, ec, mLengthR, mGate]; done) | (simp [mI_I, mL_I, mA_I, mJ_I, mI_L, mL_L, mA_L, mJ_L, mI_A, mL_A, mA_A, mJ_A, mI_J, mL_J, mA_J, mJ_J, cI_I, cL_I, cA_I, cJ_I, cR_I, cN_I, cI_L, cL_L, cA_L, cJ_L, cR_L, cN_L, cI_A, cL_A, cA_A, cJ_A, cR_A, cN_A, cI_J, cL_J, cA_J, cJ_J, cR_J, cN_J, cI_R, cL_R, cA_R, cJ_R, cR_R, cN_R, cI_N, cL_N, cA_N, cJ_N, cR_N, cN_N, ↓reduceIte, Nat.reduceEqDiff, upd_at, updL_at, h5, h17, ec, mLengthR, mGate]; rfl)
  · try simp only [mI_I, mL_I, mA_I, mJ_I, mI_L, mL_L, mA_L, mJ_L, mI_A, mL_A, mA_A, mJ_A, mI_J, mL_J, mA_J, mJ_J, cI_I, cL_I, cA_I, cJ_I, cR_I, cN_I, cI_L, cL_L, cA_L, cJ_L, cR_L, cN_L, cI_A, cL_A, cA_A, cJ_A, cR_A, cN_A, cI_J, cL_J, cA_J, cJ_J, cR_J, cN_J, cI_R, cL_R, cA_R, cJ_R, cR_R, cN_R, cI_N, cL_N, cA_N, cJ_N, cR_N, cN_N, ↓reduceIte, Nat.reduceEqDiff, upd_at, updL_at] at h5
    refine aw_iconst (v := 1) C (dec D_Mod_length rfl) (by decide) ?_
    refine aw_goto (tgt := 25) C (dec D_Mod_length rfl) (by decide) ?_
    refine pf_Mod_71 C Fw (dec D_Mod_length rfl) ?_
    refine aw_aload_n (i := 0) C (dec D_Mod_length rfl) rfl rfl ?_
    refine gf_Mod_71 C (dec D_Mod_length rfl) ?_
    refine aw_if_le (tgt := 39) C (dec D_Mod_length rfl) (by decide) (fun h_ => absurd h_ (show ¬ (1 : Int32) ≤ (0 : Int32) by decide)) (fun _ => ?_)
    refine aw_iconst (v := 0) C (dec D_Mod_length rfl) (by decide) ?_
    refine aw_goto (tgt := 45) C (dec D_Mod_length rfl) (by decide) ?_
    refine aw_ret_i C r (dec D_Mod_length rfl) rfl (by decide) (by decide) ?_
    refine ⟨?_, ?_⟩ <;> first | rfl | (simp [mI_I, mL_I, mA_I, mJ_I, mI_L, mL_L, mA_L, mJ_L, mI_A, mL_A, mA_A, mJ_A, mI_J, mL_J, mA_J, mJ_J, cI_I, cL_I, cA_I, cJ_I, cR_I, cN_I, cI_L, cL_L, cA_L, cJ_L, cR_L, cN_L, cI_A, cL_A, cA_A, cJ_A, cR_A, cN_A, cI_J, cL_J, cA_J, cJ_J, cR_J, cN_J, cI_R, cL_R, cA_R, cJ_R, cR_R, cN_R, cI_N, cL_N, cA_N, cJ_N, cR_N, cN_N, ↓reduceIte, Nat.reduceEqDiff, upd_at, updL_at, h5, mLengthR, mGate]; done) | (simp [mI_I, mL_I, mA_I, mJ_I, mI_L, mL_L, mA_L, mJ_L, mI_A, mL_A, mA_A, mJ_A, mI_J, mL_J, mA_J, mJ_J, cI_I, cL_I, cA_I, cJ_I, cR_I, cN_I, cI_L, cL_L, cA_L, cJ_L, cR_L, cN_L, cI_A, cL_A, cA_A, cJ_A, cR_A, cN_A, cI_J, cL_J, cA_J, cJ_J, cR_J, cN_J, cI_R, cL_R, cA_R, cJ_R, cR_R, cN_R, cI_N, cL_N, cA_N, cJ_N, cR_N, cN_N, ↓reduceIte, Nat.reduceEqDiff, upd_at, updL_at, h5, mLengthR, mGate]; rfl)
