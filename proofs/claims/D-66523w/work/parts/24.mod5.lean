/-! the model: saveAll, stuck, format; printed by tools/m24.py -/
def dj (s : Nat) : Int32 := nI s + Int32.ofInt (-1)
theorem dj_s (s : Nat) : dj (s + 1) = nI s := nI_dec s
def mSaveN (m : MM) : Nat → MM
  | 0 => m
  | f + 1 => mSave (mSaveN m f) f
def mBitsD (m : MM) (p : Nat) : Nat → Int64 → Int64
  | 0, x => x
  | s + 1, x => mBitsD m p s ((x <<< ((8 : Int32).toInt64 &&& 63)) ||| (mA m 10 (8 * p + s)).toInt64)
def mBits (m : MM) (p : Nat) : Int64 := mBitsD m p 8 0
def mWrN (m : MM) (ot : Nat) : Nat → MM
  | 0 => m
  | t + 1 => mWrite (mWrN m ot t) (20 * ot + (t + 1) % 20) (mBits (mWrN m ot t) ((t + 1) % 20))
theorem mGo1_I (m : MM) {k : Nat} (hk : k ≠ 4) : mI (mGo1 m) k = mI m k := by
  unfold mGo1; split
  · rw [mI_I, if_neg hk]
  · rfl
theorem mGoes_I (m : MM) (x : Int32) {k : Nat} (h2 : k ≠ 2) (h3 : k ≠ 3) (h4 : k ≠ 4) : mI (mGoes m x) k = mI m k := by
  unfold mGoes; split
  · exact mGo1_I m h4
  · rw [mTurn, mI_I, if_neg h2, mI_L, mSpend, mI_I, if_neg h3]
theorem mGoes_A (m : MM) (x : Int32) : mA (mGoes m x) = mA m := by
  unfold mGoes; split
  · unfold mGo1; split <;> rfl
  · rfl
theorem mWrite_I (m : MM) (p : Nat) (v : Int64) {k : Nat} (h2 : k ≠ 2) (h3 : k ≠ 3) (h4 : k ≠ 4) : mI (mWrite m p v) k = mI m k := by
  unfold mWrite; split
  · rfl
  · split
    · exact mGoes_I m _ h2 h3 h4
    · rw [mSJ, mI_J]; exact mGoes_I m _ h2 h3 h4
theorem mWrite_A (m : MM) (p : Nat) (v : Int64) : mA (mWrite m p v) = mA m := by
  unfold mWrite; split
  · rfl
  · split
    · exact mGoes_A m _
    · rw [mSJ, mA_J]; exact mGoes_A m _
theorem mSave_A (m : MM) (f : Nat) {j : Nat} (hj : j ≠ 8) : mA (mSave m f) j = mA m j := by
  unfold mSave; split
  · rfl
  · rw [mS, mA_A, if_neg hj, mWrite_A]
theorem mSave_I (m : MM) (f : Nat) {k : Nat} (h2 : k ≠ 2) (h3 : k ≠ 3) (h4 : k ≠ 4) : mI (mSave m f) k = mI m k := by
  unfold mSave; split
  · rfl
  · rw [mS, mI_A, mWrite_I m _ _ h2 h3 h4]
theorem mSaveN_A (m : MM) {j : Nat} (hj : j ≠ 8) : ∀ f, mA (mSaveN m f) j = mA m j
  | 0 => rfl
  | f + 1 => by rw [mSaveN, mSave_A _ _ hj]; exact mSaveN_A m hj f
theorem mSaveN_I (m : MM) {k : Nat} (h2 : k ≠ 2) (h3 : k ≠ 3) (h4 : k ≠ 4) : ∀ f, mI (mSaveN m f) k = mI m k
  | 0 => rfl
  | f + 1 => by rw [mSaveN, mSave_I _ _ h2 h3 h4]; exact mSaveN_I m h2 h3 h4 f
theorem MWin.save {m : MM} (h : MWin m) (f : Nat) : MWin (mSave m f) := by
  intro g hg h8
  rw [mSave_A _ _ (by decide)]
  refine h g hg fun z => h8 ?_
  unfold mSave
  split
  · exact z
  · rw [mS, mA_A, if_pos rfl, upd_at, mWrite_A]
    split
    · rfl
    · exact z
theorem MWin.saveN {m : MM} (h : MWin m) : ∀ f, MWin (mSaveN m f)
  | 0 => h
  | f + 1 => (h.saveN f).save f
theorem mPutB_I (m : MM) (p : Nat) (v : Int64) : ∀ k, mI (mPutB m p v k) = mI m
  | 0 => rfl
  | k + 1 => by rw [mPutB, mS, mI_A]; exact mPutB_I m p v k
theorem mBeh0_I (m : MM) : ∀ t, mI (mBeh0 m t) = mI m
  | 0 => rfl
  | t + 1 => by rw [mBeh0, mS, mI_A]; exact mBeh0_I m t
theorem mLk_I (m : MM) (ch : Nat → Nat → Nat) (f : Nat) : ∀ t, mI (mLk m ch f t) = mI m
  | 0 => rfl
  | t + 1 => by rw [mLk, mS, mI_A]; exact mLk_I m ch f t
theorem mImN_I (m : MM) (L : Nat → Nat) (ch : Nat → Nat → Nat) : ∀ f, mI (mImN m L ch f) = mI m
  | 0 => rfl
  | f + 1 => by rw [mImN]; simp only [mImF]; rw [mPutB_I, mPutB_I, mPutB_I, mLk_I]; exact mImN_I m L ch f
theorem mLnk_I (m : MM) : ∀ t, mI (mLnk m t) = mI m
  | 0 => rfl
  | t + 1 => by rw [mLnk, mPutB_I]; exact mLnk_I m t
theorem mLnk_A (m : MM) {j : Nat} (hj : j ≠ 10) : ∀ t, mA (mLnk m t) j = mA m j
  | 0 => rfl
  | t + 1 => by rw [mLnk, mPutB_A _ _ _ hj]; exact mLnk_A m hj t
theorem mMake_I (m : MM) (L : Nat → Nat) (ch : Nat → Nat → Nat) (x : Int32) : mI (mMake m L ch x) = mI m := by
  simp only [mMake]; rw [mPutB_I, mLnk_I, mPutB_I, mImN_I, mBeh0_I]
theorem mMake_A (m : MM) (L : Nat → Nat) (ch : Nat → Nat → Nat) (x : Int32) {j : Nat} (h10 : j ≠ 10) (h11 : j ≠ 11) : mA (mMake m L ch x) j = mA m j := by
  simp only [mMake]; rw [mPutB_A _ _ _ h10, mLnk_A _ h10, mPutB_A _ _ _ h10, mImN_A _ _ _ h10 h11, mBeh0_A _ h11]
theorem mWrN_A (m : MM) (ot : Nat) : ∀ t, mA (mWrN m ot t) = mA m
  | 0 => rfl
  | t + 1 => by rw [mWrN, mWrite_A]; exact mWrN_A m ot t
theorem mWrN_I (m : MM) (ot : Nat) {k : Nat} (h2 : k ≠ 2) (h3 : k ≠ 3) (h4 : k ≠ 4) : ∀ t, mI (mWrN m ot t) k = mI m k
  | 0 => rfl
  | t + 1 => by rw [mWrN, mWrite_I _ _ _ h2 h3 h4]; exact mWrN_I m ot h2 h3 h4 t
def mSaveAll (m : MM) (L : Nat → Nat) (ch : Nat → Nat → Nat) (cu tn : Nat) : MM :=
  mHoldN (smI (smI (mWrN (mMake (mSaveN m 8) L ch (nI ((tn + 1) % 256))) (1 - cu) 20) 6 (nI (1 - cu))) 7 (nI ((tn + 1) % 256))) L 101
theorem nI_8s (p s : Nat) : (8 : Int32) * nI p + nI s = nI (8 * p + s) := by rw [nI_mul8, nI_add]
theorem nI_rem {n d : Nat} (hn : n < 2 ^ 31) (h0 : 0 < d) (hd : d < 2 ^ 31) : nI n - nI n / nI d * nI d = nI (n % d) := pk_rem hn h0 hd
theorem c_Mod_saveAll (l : Launch) (G : GG) (a : AD) (c : CC) (m : MM) (o : OO) (L : Nat → Nat) (ch : Nat → Nat → Nat) (cu tn : Nat) (hL : MLn m L) (hC : MCh m L ch) (hW : MWin m) (hcu : mI m 6 = nI cu ∧ cu < 2) (htn : mI m 7 = nI tn ∧ tn < 256) : CT l G y_Mod_saveAll (.code y_Mod_saveAll b_Mod_saveAll 8 none) 5 0 0 (Fyes G) (wld G a c m o) [.ref (a 30 0)] (fun r w2 => r = .inl none ∧ w2 = wld G a c (mSaveAll m L ch cu tn) o) := by
  refine CT.of (by decide) (Nat.le_of_ble_eq_true rfl) rfl ?_
  intro E hl hG hF C r hw hex hnm
  subst hl; subst hG
  have Fw : Cw E := fun a h => by rw [hF]; exact h
  have hsz : 1 - cu < 2 := by omega
  have lp2 : ∀ (n t : Nat) , 21 - t < n → t ≤ 21 → 1 ≤ t → AW E false 0 0 (wld (eG E) a c (mWrN (mMake (mSaveN m 8) L ch (nI ((tn + 1) % 256))) (1 - cu) (t - 1)) o) 44 [(0, .ref (a 30 0)), (1, .int (nI (1 - cu))), (2, .int (nI ((tn + 1) % 256))), (3, .int (nI t))] [] := by
    intro n
    induction n with
    | zero => intro t  h1 h2 h0; omega
    | succ n ih =>
      intro t  h1t h2t h0t
      refine aw_iload_n (i := 3) C (dec D_Mod_saveAll rfl) rfl rfl ?_
      refine aw_bipush (v := 21) C (dec D_Mod_saveAll rfl) (by decide) ?_
      refine aw_icmp_ge (tgt := 115) C (dec D_Mod_saveAll rfl) (by decide) (fun hb => ?_) (fun hb => ?_)
      · try simp only [mI_I, mL_I, mA_I, mJ_I, mI_L, mL_L, mA_L, mJ_L, mI_A, mL_A, mA_A, mJ_A, mI_J, mL_J, mA_J, mJ_J, cI_I, cL_I, cA_I, cJ_I, cR_I, cN_I, cI_L, cL_L, cA_L, cJ_L, cR_L, cN_L, cI_A, cL_A, cA_A, cJ_A, cR_A, cN_A, cI_J, cL_J, cA_J, cJ_J, cR_J, cN_J, cI_R, cL_R, cA_R, cJ_R, cR_R, cN_R, cI_N, cL_N, cA_N, cJ_N, cR_N, cN_N, ↓reduceIte, Nat.reduceEqDiff, upd_at, updL_at] at hb
        have e9 : t = 21 := by have := ix_ge (N := 21) hb; omega
        subst e9
        have e6 : MLn (smI (smI (mWrN (mMake (mSaveN m 8) L ch (nI ((tn + 1) % 256))) (1 - cu) 20) 6 (nI (1 - cu))) 7 (nI ((tn + 1) % 256))) L := hL.of (by rw [mA_I, mA_I, mWrN_A, mMake_A _ _ _ _ (by decide) (by decide), mSaveN_A _ (by decide)])
        refine aw_aload_n (i := 0) C (dec D_Mod_saveAll rfl) rfl rfl ?_
        refine aw_iload_n (i := 1) C (dec D_Mod_saveAll rfl) rfl rfl ?_
        refine pf_Mod_110 C Fw (dec D_Mod_saveAll rfl) ?_
        refine aw_aload_n (i := 0) C (dec D_Mod_saveAll rfl) rfl rfl ?_
        refine aw_iload_n (i := 2) C (dec D_Mod_saveAll rfl) rfl rfl ?_
        refine pf_Mod_113 C Fw (dec D_Mod_saveAll rfl) ?_
        refine aw_aload_n (i := 0) C (dec D_Mod_saveAll rfl) rfl rfl ?_
        refine aw_cv C ci_Mod_143 [] (c_Mod_hold _ _ _ _ _ _ L e6) (dec D_Mod_saveAll rfl) rcM rfl (fpW Fw) (Nat.le_of_ble_eq_true rfl) (by decide) ⟨by decide, by decide⟩ (fun v w2 hp => ?_) (fun _ _ h => by cases h.1)
        obtain ⟨hv, rfl⟩ := hp
        cases hv
        refine aw_ret_v C r (dec D_Mod_saveAll rfl) (by decide) (by decide) ?_
        exact ⟨rfl, rfl⟩
      · try simp only [mI_I, mL_I, mA_I, mJ_I, mI_L, mL_L, mA_L, mJ_L, mI_A, mL_A, mA_A, mJ_A, mI_J, mL_J, mA_J, mJ_J, cI_I, cL_I, cA_I, cJ_I, cR_I, cN_I, cI_L, cL_L, cA_L, cJ_L, cR_L, cN_L, cI_A, cL_A, cA_A, cJ_A, cR_A, cN_A, cI_J, cL_J, cA_J, cJ_J, cR_J, cN_J, cI_R, cL_R, cA_R, cJ_R, cR_R, cN_R, cI_N, cL_N, cA_N, cJ_N, cR_N, cN_N, ↓reduceIte, Nat.reduceEqDiff, upd_at, updL_at] at hb
        have htt : t < 21 := ix_lt (N := 21) hb
        obtain ⟨t0, rfl⟩ : ∃ t0, t = t0 + 1 := ⟨t - 1, by omega⟩
        refine aw_iload_n (i := 3) C (dec D_Mod_saveAll rfl) rfl rfl ?_
        refine aw_bipush (v := 20) C (dec D_Mod_saveAll rfl) (by decide) ?_
        refine aw_irem C (dec D_Mod_saveAll rfl) (by decide) ?_
        rw [show (20 : Int32) = nI 20 from rfl, nI_rem (by omega) (by omega) (by omega)]
        refine aw_istore C (dec D_Mod_saveAll rfl) (by decide) ?_
        refine aw_lconst (v := 0) C (dec D_Mod_saveAll rfl) (by decide) ?_
        refine aw_lstore C (dec D_Mod_saveAll rfl) (by decide) ?_
        refine aw_bipush (v := 7) C (dec D_Mod_saveAll rfl) (by decide) ?_
        refine aw_istore C (dec D_Mod_saveAll rfl) (by decide) ?_
        have lpd : ∀ (s : Nat) (x : Int64), s ≤ 8 → mBitsD (mWrN (mMake (mSaveN m 8) L ch (nI ((tn + 1) % 256))) (1 - cu) t0) ((t0 + 1) % 20) s x = mBits (mWrN (mMake (mSaveN m 8) L ch (nI ((tn + 1) % 256))) (1 - cu) t0) ((t0 + 1) % 20) → AW E false 0 0 (wld (eG E) a c (mWrN (mMake (mSaveN m 8) L ch (nI ((tn + 1) % 256))) (1 - cu) t0) o) 63 [(0, .ref (a 30 0)), (1, .int (nI (1 - cu))), (2, .int (nI ((tn + 1) % 256))), (3, .int (nI (t0 + 1))), (4, .int (nI ((t0 + 1) % 20))), (5, .long x), (7, .int (dj s))] [] := by
          intro s
          induction s with
          | zero =>
            intro x h2s hx
            refine aw_iload C (dec D_Mod_saveAll rfl) rfl ?_
            refine aw_if_lt (tgt := 96) C (dec D_Mod_saveAll rfl) (by decide) (fun hd => ?_) (fun hd => ?_)
            · try simp only [mI_I, mL_I, mA_I, mJ_I, mI_L, mL_L, mA_L, mJ_L, mI_A, mL_A, mA_A, mJ_A, mI_J, mL_J, mA_J, mJ_J, cI_I, cL_I, cA_I, cJ_I, cR_I, cN_I, cI_L, cL_L, cA_L, cJ_L, cR_L, cN_L, cI_A, cL_A, cA_A, cJ_A, cR_A, cN_A, cI_J, cL_J, cA_J, cJ_J, cR_J, cN_J, cI_R, cL_R, cA_R, cJ_R, cR_R, cN_R, cI_N, cL_N, cA_N, cJ_N, cR_N, cN_N, ↓reduceIte, Nat.reduceEqDiff, upd_at, updL_at] at hd
              obtain rfl : x = mBits (mWrN (mMake (mSaveN m 8) L ch (nI ((tn + 1) % 256))) (1 - cu) t0) ((t0 + 1) % 20) := hx
              refine aw_aload_n (i := 0) C (dec D_Mod_saveAll rfl) rfl rfl ?_
              refine aw_bipush (v := 20) C (dec D_Mod_saveAll rfl) (by decide) ?_
              refine aw_iload_n (i := 1) C (dec D_Mod_saveAll rfl) rfl rfl ?_
              refine aw_imul C (dec D_Mod_saveAll rfl) ?_
              refine aw_iload C (dec D_Mod_saveAll rfl) rfl ?_
              refine aw_iadd C (dec D_Mod_saveAll rfl) ?_
              rw [nI_im]
              refine aw_lload C (dec D_Mod_saveAll rfl) rfl ?_
              refine aw_cv C ci_Mod_139 [_, _] (c_Mod_write _ _ _ _ _ _ (20 * (1 - cu) + (t0 + 1) % 20) _ (by omega)) (dec D_Mod_saveAll rfl) rcM rfl (fpW Fw) (Nat.le_of_ble_eq_true rfl) (by decide) ⟨by decide, by decide⟩ (fun v w2 hp => ?_) (fun _ _ h => by cases h.1)
              obtain ⟨hv, rfl⟩ := hp
              cases hv
              refine AW.ls [(0, .ref (a 30 0)), (1, .int (nI (1 - cu))), (2, .int (nI ((tn + 1) % 256))), (3, .int (nI (t0 + 1)))] rfl ?_
              refine aw_iinc C (dec D_Mod_saveAll rfl) rfl (nI_inc (t0 + 1)) (by decide) ?_
              refine aw_goto (tgt := 44) C (dec D_Mod_saveAll rfl) (by decide) ?_
              exact ih (t0 + 2) (by omega) (by omega) (by omega)
            · try simp only [mI_I, mL_I, mA_I, mJ_I, mI_L, mL_L, mA_L, mJ_L, mI_A, mL_A, mA_A, mJ_A, mI_J, mL_J, mA_J, mJ_J, cI_I, cL_I, cA_I, cJ_I, cR_I, cN_I, cI_L, cL_L, cA_L, cJ_L, cR_L, cN_L, cI_A, cL_A, cA_A, cJ_A, cR_A, cN_A, cI_J, cL_J, cA_J, cJ_J, cR_J, cN_J, cI_R, cL_R, cA_R, cJ_R, cR_R, cN_R, cI_N, cL_N, cA_N, cJ_N, cR_N, cN_N, ↓reduceIte, Nat.reduceEqDiff, upd_at, updL_at] at hd
              exact absurd (by decide) hd
          | succ s ihd =>
            intro x h2s hx
            rw [dj_s]
            refine aw_iload C (dec D_Mod_saveAll rfl) rfl ?_
            refine aw_if_lt (tgt := 96) C (dec D_Mod_saveAll rfl) (by decide) (fun hd => ?_) (fun hd => ?_)
            · try simp only [mI_I, mL_I, mA_I, mJ_I, mI_L, mL_L, mA_L, mJ_L, mI_A, mL_A, mA_A, mJ_A, mI_J, mL_J, mA_J, mJ_J, cI_I, cL_I, cA_I, cJ_I, cR_I, cN_I, cI_L, cL_L, cA_L, cJ_L, cR_L, cN_L, cI_A, cL_A, cA_A, cJ_A, cR_A, cN_A, cI_J, cL_J, cA_J, cJ_J, cR_J, cN_J, cI_R, cL_R, cA_R, cJ_R, cR_R, cN_R, cI_N, cL_N, cA_N, cJ_N, cR_N, cN_N, ↓reduceIte, Nat.reduceEqDiff, upd_at, updL_at] at hd
              exact absurd hd (nI_pos (by omega))
            · try simp only [mI_I, mL_I, mA_I, mJ_I, mI_L, mL_L, mA_L, mJ_L, mI_A, mL_A, mA_A, mJ_A, mI_J, mL_J, mA_J, mJ_J, cI_I, cL_I, cA_I, cJ_I, cR_I, cN_I, cI_L, cL_L, cA_L, cJ_L, cR_L, cN_L, cI_A, cL_A, cA_A, cJ_A, cR_A, cN_A, cI_J, cL_J, cA_J, cJ_J, cR_J, cN_J, cI_R, cL_R, cA_R, cJ_R, cR_R, cN_R, cI_N, cL_N, cA_N, cJ_N, cR_N, cN_N, ↓reduceIte, Nat.reduceEqDiff, upd_at, updL_at] at hd
              refine aw_lload C (dec D_Mod_saveAll rfl) rfl ?_
              refine aw_bipush (v := 8) C (dec D_Mod_saveAll rfl) (by decide) ?_
              refine aw_lshl C (dec D_Mod_saveAll rfl) ?_
              refine aw_aload_n (i := 0) C (dec D_Mod_saveAll rfl) rfl rfl ?_
              refine gf_Mod_47 C (dec D_Mod_saveAll rfl) ?_
              refine aw_bipush (v := 8) C (dec D_Mod_saveAll rfl) (by decide) ?_
              refine aw_iload C (dec D_Mod_saveAll rfl) rfl ?_
              refine aw_imul C (dec D_Mod_saveAll rfl) ?_
              refine aw_iload C (dec D_Mod_saveAll rfl) rfl ?_
              refine aw_iadd C (dec D_Mod_saveAll rfl) ?_
              refine al_M10 C (8 * ((t0 + 1) % 20) + s) (dec D_Mod_saveAll rfl) (ix_eq (nI_8s _ s) (by omega)) ?_
              refine aw_i2l C (dec D_Mod_saveAll rfl) ?_
              refine aw_lor C (dec D_Mod_saveAll rfl) ?_
              refine aw_lstore C (dec D_Mod_saveAll rfl) (by decide) ?_
              refine aw_iinc C (dec D_Mod_saveAll rfl) rfl rfl (by decide) ?_
              refine aw_goto (tgt := 63) C (dec D_Mod_saveAll rfl) (by decide) ?_
              exact ihd _ (by omega) hx
        exact lpd 8 0 (by omega) rfl
  have lp1 : ∀ (n t : Nat) , 8 - t < n → t ≤ 8 → AW E false 0 0 (wld (eG E) a c (mSaveN m t) o) 2 [(0, .ref (a 30 0)), (1, .int (nI t))] [] := by
    intro n
    induction n with
    | zero => intro t  h1 h2; omega
    | succ n ih =>
      intro t  h1t h2t
      refine aw_iload_n (i := 1) C (dec D_Mod_saveAll rfl) rfl rfl ?_
      refine aw_bipush (v := 8) C (dec D_Mod_saveAll rfl) (by decide) ?_
      refine aw_icmp_ge (tgt := 19) C (dec D_Mod_saveAll rfl) (by decide) (fun hb => ?_) (fun hb => ?_)
      · try simp only [mI_I, mL_I, mA_I, mJ_I, mI_L, mL_L, mA_L, mJ_L, mI_A, mL_A, mA_A, mJ_A, mI_J, mL_J, mA_J, mJ_J, cI_I, cL_I, cA_I, cJ_I, cR_I, cN_I, cI_L, cL_L, cA_L, cJ_L, cR_L, cN_L, cI_A, cL_A, cA_A, cJ_A, cR_A, cN_A, cI_J, cL_J, cA_J, cJ_J, cR_J, cN_J, cI_R, cL_R, cA_R, cJ_R, cR_R, cN_R, cI_N, cL_N, cA_N, cJ_N, cR_N, cN_N, ↓reduceIte, Nat.reduceEqDiff, upd_at, updL_at] at hb
        have e9 : t = 8 := by have := ix_ge (N := 8) hb; omega
        subst e9
        refine AW.ls [(0, .ref (a 30 0))] rfl ?_
        have e1 : mI (mSaveN m 8) 6 = nI cu := by rw [mSaveN_I _ (by decide) (by decide) (by decide)]; exact hcu.1
        have e2 : mI (mSaveN m 8) 7 = nI tn := by rw [mSaveN_I _ (by decide) (by decide) (by decide)]; exact htn.1
        refine aw_iconst (v := 1) C (dec D_Mod_saveAll rfl) (by decide) ?_
        refine aw_aload_n (i := 0) C (dec D_Mod_saveAll rfl) rfl rfl ?_
        refine gf_Mod_110 C (dec D_Mod_saveAll rfl) ?_
        rw [e1]
        refine aw_isub C (dec D_Mod_saveAll rfl) ?_
        rw [show (1 : Int32) = nI 1 from rfl, pk_sub (by omega)]
        refine aw_istore_n (i := 1) C (dec D_Mod_saveAll rfl) rfl (by decide) ?_
        refine aw_aload_n (i := 0) C (dec D_Mod_saveAll rfl) rfl rfl ?_
        refine gf_Mod_113 C (dec D_Mod_saveAll rfl) ?_
        rw [e2]
        refine aw_iconst (v := 1) C (dec D_Mod_saveAll rfl) (by decide) ?_
        refine aw_iadd C (dec D_Mod_saveAll rfl) ?_
        refine aw_sipush (v := 256) C (dec D_Mod_saveAll rfl) (by decide) ?_
        refine aw_irem C (dec D_Mod_saveAll rfl) (by decide) ?_
        rw [show (1 : Int32) = nI 1 from rfl, nI_add, show (256 : Int32) = nI 256 from rfl, nI_rem (by omega) (by omega) (by omega)]
        refine aw_istore_n (i := 2) C (dec D_Mod_saveAll rfl) rfl (by decide) ?_
        refine aw_aload_n (i := 0) C (dec D_Mod_saveAll rfl) rfl rfl ?_
        refine aw_iload_n (i := 2) C (dec D_Mod_saveAll rfl) rfl rfl ?_
        refine aw_cv C ci_Mod_136 [_] (c_Mod_makeImage _ _ _ _ _ _ _ L ch (hL.of (mSaveN_A _ (by decide) _)) (hC.of (mSaveN_A _ (by decide) _))) (dec D_Mod_saveAll rfl) rcM rfl (fpW Fw) (Nat.le_of_ble_eq_true rfl) (by decide) ⟨by decide, by decide⟩ (fun v w2 hp => ?_) (fun _ _ h => by cases h.1)
        obtain ⟨hv, rfl⟩ := hp
        cases hv
        refine aw_iconst (v := 1) C (dec D_Mod_saveAll rfl) (by decide) ?_
        refine aw_istore_n (i := 3) C (dec D_Mod_saveAll rfl) rfl (by decide) ?_
        exact lp2 22 1 (by omega) (by omega) (by omega)
      · try simp only [mI_I, mL_I, mA_I, mJ_I, mI_L, mL_L, mA_L, mJ_L, mI_A, mL_A, mA_A, mJ_A, mI_J, mL_J, mA_J, mJ_J, cI_I, cL_I, cA_I, cJ_I, cR_I, cN_I, cI_L, cL_L, cA_L, cJ_L, cR_L, cN_L, cI_A, cL_A, cA_A, cJ_A, cR_A, cN_A, cI_J, cL_J, cA_J, cJ_J, cR_J, cN_J, cI_R, cL_R, cA_R, cJ_R, cR_R, cN_R, cI_N, cL_N, cA_N, cJ_N, cR_N, cN_N, ↓reduceIte, Nat.reduceEqDiff, upd_at, updL_at] at hb
        have htt : t < 8 := ix_lt (N := 8) hb
        refine aw_aload_n (i := 0) C (dec D_Mod_saveAll rfl) rfl rfl ?_
        refine aw_iload_n (i := 1) C (dec D_Mod_saveAll rfl) rfl rfl ?_
        refine aw_cv C ci_Mod_133 [_] (c_Mod_save _ _ _ _ _ _ t htt ((hW.saveN t) t htt)) (dec D_Mod_saveAll rfl) rcM rfl (fpW Fw) (Nat.le_of_ble_eq_true rfl) (by decide) ⟨by decide, by decide⟩ (fun v w2 hp => ?_) (fun _ _ h => by cases h.1)
        obtain ⟨hv, rfl⟩ := hp
        cases hv
        refine aw_iinc C (dec D_Mod_saveAll rfl) rfl (nI_inc t) (by decide) ?_
        refine aw_goto (tgt := 2) C (dec D_Mod_saveAll rfl) (by decide) ?_
        exact ih (t + 1) (by omega) (by omega)
  refine aw_iconst (v := 0) C (dec D_Mod_saveAll rfl) (by decide) ?_
  refine aw_istore_n (i := 1) C (dec D_Mod_saveAll rfl) rfl (by decide) ?_
  exact AW.impure (lp1 9 0 (by omega) (by omega))
