/-! the model: images are made and written; printed by tools/m23.py -/
/-- the pages of the chains are ch -/
def MCh (m : MM) (L : Nat → Nat) (ch : Nat → Nat → Nat) : Prop := ∀ f i, f < 8 → i < pg (L f) → mA m 5 (64 * f + i) = nI (ch f i) ∧ 40 ≤ ch f i ∧ ch f i < 101
def MWin (m : MM) : Prop := ∀ f, f < 8 → ¬ mA m 8 f = 0 → ∃ p, p < 101 ∧ mA m 6 f = nI p
theorem MLn.of {m m' : MM} {L : Nat → Nat} (h : MLn m L) (e : mA m' 4 = mA m 4) : MLn m' L := fun f hf => by rw [e]; exact h f hf
theorem MCh.of {m m' : MM} {L : Nat → Nat} {ch : Nat → Nat → Nat} (h : MCh m L ch) (e : mA m' 5 = mA m 5) : MCh m' L ch := fun f i hf hi => by rw [e]; exact h f i hf hi
def mBeh0 (m : MM) : Nat → MM
  | 0 => m
  | t + 1 => mS (mBeh0 m t) 11 t 0
def mLk (m : MM) (ch : Nat → Nat → Nat) (f : Nat) : Nat → MM
  | 0 => m
  | i + 1 => mS (mLk m ch f i) 11 (ch f i) (mA (mLk m ch f i) 5 (64 * f + (i + 1)))
def mImF (m : MM) (L : Nat → Nat) (ch : Nat → Nat → Nat) (f : Nat) : MM :=
  let m1 := mLk m ch f (pg (L f) + (1 - pg (L f)) - 1)
  let m2 := mPutB m1 (1 + 7 * f) (mA m1 3 f).toInt64 4
  let m3 := mPutB m2 (5 + 7 * f) (if pg (L f) = 0 then 0 else (mA m2 5 (64 * f)).toInt64) 1
  mPutB m3 (6 + 7 * f) (mA m3 4 f).toInt64 2
def mImN (m : MM) (L : Nat → Nat) (ch : Nat → Nat → Nat) : Nat → MM
  | 0 => m
  | f + 1 => mImF (mImN m L ch f) L ch f
def mLnk (m : MM) : Nat → MM
  | 0 => m
  | k + 1 => mPutB (mLnk m k) (57 + k) (mA (mLnk m k) 11 k).toInt64 1
def mMake (m : MM) (L : Nat → Nat) (ch : Nat → Nat → Nat) (x : Int32) : MM :=
  let m6 := mLnk (mPutB (mImN (mBeh0 m 101) L ch 8) 0 x.toInt64 1) 101
  mPutB m6 158 (mSum m6).toInt64 2
theorem mPutB_A (m : MM) (p : Nat) (v : Int64) {j : Nat} (hj : j ≠ 10) : ∀ k, mA (mPutB m p v k) j = mA m j
  | 0 => rfl
  | k + 1 => by rw [mPutB, mS, mA_A, if_neg hj]; exact mPutB_A m p v hj k
theorem mBeh0_A (m : MM) {j : Nat} (hj : j ≠ 11) : ∀ t, mA (mBeh0 m t) j = mA m j
  | 0 => rfl
  | t + 1 => by rw [mBeh0, mS, mA_A, if_neg hj]; exact mBeh0_A m hj t
theorem mLk_A (m : MM) (ch : Nat → Nat → Nat) (f : Nat) {j : Nat} (hj : j ≠ 11) : ∀ t, mA (mLk m ch f t) j = mA m j
  | 0 => rfl
  | t + 1 => by rw [mLk, mS, mA_A, if_neg hj]; exact mLk_A m ch f hj t
theorem mImF_A (m : MM) (L : Nat → Nat) (ch : Nat → Nat → Nat) (f : Nat) {j : Nat} (h10 : j ≠ 10) (h11 : j ≠ 11) : mA (mImF m L ch f) j = mA m j := by
  simp only [mImF]
  rw [mPutB_A _ _ _ h10, mPutB_A _ _ _ h10, mPutB_A _ _ _ h10, mLk_A _ _ _ h11]
theorem mImN_A (m : MM) (L : Nat → Nat) (ch : Nat → Nat → Nat) {j : Nat} (h10 : j ≠ 10) (h11 : j ≠ 11) : ∀ f, mA (mImN m L ch f) j = mA m j
  | 0 => rfl
  | f + 1 => by rw [mImN, mImF_A _ _ _ _ h10 h11]; exact mImN_A m L ch h10 h11 f
theorem nI_k7 (k f : Nat) : nI k + 7 * nI f = nI (k + 7 * f) := by rw [show (7 : Int32) = nI 7 from rfl, pk_mul, nI_add]
theorem nI_ch1 {f i : Nat} (h : 1 ≤ i) : (64 : Int32) * nI f + nI i - 1 = nI (64 * f + (i - 1)) := by
  rw [nI_ch, show (1 : Int32) = nI 1 from rfl, pk_sub (by omega), show 64 * f + i - 1 = 64 * f + (i - 1) by omega]
theorem nI_64 (f : Nat) : (64 : Int32) * nI f = nI (64 * f) := pk_mul 64 f
theorem nI_57 (k : Nat) : (57 : Int32) + nI k = nI (57 + k) := nI_add 57 k
theorem c_Mod_makeImage (l : Launch) (G : GG) (a : AD) (c : CC) (m : MM) (o : OO) (x : Int32) (L : Nat → Nat) (ch : Nat → Nat → Nat) (hL : MLn m L) (hC : MCh m L ch) : CT l G y_Mod_makeImage (.code y_Mod_makeImage b_Mod_makeImage 4 none) 2 0 0 (Fyes G) (wld G a c m o) [.ref (a 30 0), .int x] (fun r w2 => r = .inl none ∧ w2 = wld G a c (mMake m L ch x) o) := by
  refine CT.of (by decide) (Nat.le_of_ble_eq_true rfl) rfl ?_
  intro E hl hG hF C r hw hex hnm
  subst hl; subst hG
  have Fw : Cw E := fun a h => by rw [hF]; exact h
  have lp3 : ∀ (n t : Nat) , 101 - t < n → t ≤ 101 → AW E false 0 0 (wld (eG E) a c (mLnk (mPutB (mImN (mBeh0 m 101) L ch 8) 0 x.toInt64 1) t) o) 161 [(0, .ref (a 30 0)), (1, .int x), (2, .int (nI t))] [] := by
    intro n
    induction n with
    | zero => intro t  h1 h2; omega
    | succ n ih =>
      intro t  h1t h2t
      refine aw_iload_n (i := 2) C (dec D_Mod_makeImage rfl) rfl rfl ?_
      refine aw_bipush (v := 101) C (dec D_Mod_makeImage rfl) (by decide) ?_
      refine aw_icmp_ge (tgt := 189) C (dec D_Mod_makeImage rfl) (by decide) (fun hb => ?_) (fun hb => ?_)
      · try simp only [mI_I, mL_I, mA_I, mJ_I, mI_L, mL_L, mA_L, mJ_L, mI_A, mL_A, mA_A, mJ_A, mI_J, mL_J, mA_J, mJ_J, cI_I, cL_I, cA_I, cJ_I, cR_I, cN_I, cI_L, cL_L, cA_L, cJ_L, cR_L, cN_L, cI_A, cL_A, cA_A, cJ_A, cR_A, cN_A, cI_J, cL_J, cA_J, cJ_J, cR_J, cN_J, cI_R, cL_R, cA_R, cJ_R, cR_R, cN_R, cI_N, cL_N, cA_N, cJ_N, cR_N, cN_N, ↓reduceIte, Nat.reduceEqDiff, upd_at, updL_at] at hb
        have e9 : t = 101 := by have := ix_ge (N := 101) hb; omega
        subst e9
        refine aw_aload_n (i := 0) C (dec D_Mod_makeImage rfl) rfl rfl ?_
        refine aw_sipush (v := 158) C (dec D_Mod_makeImage rfl) (by decide) ?_
        refine aw_aload_n (i := 0) C (dec D_Mod_makeImage rfl) rfl rfl ?_
        refine aw_cv C ci_Mod_129 [] (c_Mod_sumOfImage _ _ _ _ _ _) (dec D_Mod_makeImage rfl) rcM rfl fpP (Nat.le_of_ble_eq_true rfl) (by decide) ⟨by decide, by decide⟩ (fun v w2 hp => ?_) (fun _ _ h => by cases h.1)
        obtain ⟨hv, rfl⟩ := hp
        cases hv
        refine aw_i2l C (dec D_Mod_makeImage rfl) ?_
        refine aw_iconst (v := 2) C (dec D_Mod_makeImage rfl) (by decide) ?_
        refine aw_cv C ci_Mod_125 [_, _, _] (c_Mod_putBytes _ _ _ _ _ _ 158 _ 2 (by omega)) (dec D_Mod_makeImage rfl) rcM rfl (fpW Fw) (Nat.le_of_ble_eq_true rfl) (by decide) ⟨by decide, by decide⟩ (fun v w2 hp => ?_) (fun _ _ h => by cases h.1)
        obtain ⟨hv, rfl⟩ := hp
        cases hv
        refine aw_ret_v C r (dec D_Mod_makeImage rfl) (by decide) (by decide) ?_
        exact ⟨rfl, rfl⟩
      · try simp only [mI_I, mL_I, mA_I, mJ_I, mI_L, mL_L, mA_L, mJ_L, mI_A, mL_A, mA_A, mJ_A, mI_J, mL_J, mA_J, mJ_J, cI_I, cL_I, cA_I, cJ_I, cR_I, cN_I, cI_L, cL_L, cA_L, cJ_L, cR_L, cN_L, cI_A, cL_A, cA_A, cJ_A, cR_A, cN_A, cI_J, cL_J, cA_J, cJ_J, cR_J, cN_J, cI_R, cL_R, cA_R, cJ_R, cR_R, cN_R, cI_N, cL_N, cA_N, cJ_N, cR_N, cN_N, ↓reduceIte, Nat.reduceEqDiff, upd_at, updL_at] at hb
        have htt : t < 101 := ix_lt (N := 101) hb
        refine aw_aload_n (i := 0) C (dec D_Mod_makeImage rfl) rfl rfl ?_
        refine aw_bipush (v := 57) C (dec D_Mod_makeImage rfl) (by decide) ?_
        refine aw_iload_n (i := 2) C (dec D_Mod_makeImage rfl) rfl rfl ?_
        refine aw_iadd C (dec D_Mod_makeImage rfl) ?_
        rw [nI_57]
        refine aw_aload_n (i := 0) C (dec D_Mod_makeImage rfl) rfl rfl ?_
        refine gf_Mod_50 C (dec D_Mod_makeImage rfl) ?_
        refine aw_iload_n (i := 2) C (dec D_Mod_makeImage rfl) rfl rfl ?_
        refine al_M11 C t (dec D_Mod_makeImage rfl) (ix_of htt) ?_
        refine aw_i2l C (dec D_Mod_makeImage rfl) ?_
        refine aw_iconst (v := 1) C (dec D_Mod_makeImage rfl) (by decide) ?_
        refine aw_cv C ci_Mod_125 [_, _, _] (c_Mod_putBytes _ _ _ _ _ _ (57 + t) _ 1 (by omega)) (dec D_Mod_makeImage rfl) rcM rfl (fpW Fw) (Nat.le_of_ble_eq_true rfl) (by decide) ⟨by decide, by decide⟩ (fun v w2 hp => ?_) (fun _ _ h => by cases h.1)
        obtain ⟨hv, rfl⟩ := hp
        cases hv
        refine aw_iinc C (dec D_Mod_makeImage rfl) rfl (nI_inc t) (by decide) ?_
        refine aw_goto (tgt := 161) C (dec D_Mod_makeImage rfl) (by decide) ?_
        exact ih (t + 1) (by omega) (by omega)
  have lp2 : ∀ (n f : Nat) , 8 - f < n → f ≤ 8 → AW E false 0 0 (wld (eG E) a c (mImN (mBeh0 m 101) L ch f) o) 23 [(0, .ref (a 30 0)), (1, .int x), (2, .int (nI f))] [] := by
    intro n
    induction n with
    | zero => intro f  h1 h2; omega
    | succ n ih =>
      intro f  h1f h2f
      refine aw_iload_n (i := 2) C (dec D_Mod_makeImage rfl) rfl rfl ?_
      refine aw_bipush (v := 8) C (dec D_Mod_makeImage rfl) (by decide) ?_
      refine aw_icmp_ge (tgt := 151) C (dec D_Mod_makeImage rfl) (by decide) (fun hb => ?_) (fun hb => ?_)
      · try simp only [mI_I, mL_I, mA_I, mJ_I, mI_L, mL_L, mA_L, mJ_L, mI_A, mL_A, mA_A, mJ_A, mI_J, mL_J, mA_J, mJ_J, cI_I, cL_I, cA_I, cJ_I, cR_I, cN_I, cI_L, cL_L, cA_L, cJ_L, cR_L, cN_L, cI_A, cL_A, cA_A, cJ_A, cR_A, cN_A, cI_J, cL_J, cA_J, cJ_J, cR_J, cN_J, cI_R, cL_R, cA_R, cJ_R, cR_R, cN_R, cI_N, cL_N, cA_N, cJ_N, cR_N, cN_N, ↓reduceIte, Nat.reduceEqDiff, upd_at, updL_at] at hb
        have e9 : f = 8 := by have := ix_ge (N := 8) hb; omega
        subst e9
        refine AW.ls [(0, .ref (a 30 0)), (1, .int x)] rfl ?_
        refine aw_aload_n (i := 0) C (dec D_Mod_makeImage rfl) rfl rfl ?_
        refine aw_iconst (v := 0) C (dec D_Mod_makeImage rfl) (by decide) ?_
        refine aw_iload_n (i := 1) C (dec D_Mod_makeImage rfl) rfl rfl ?_
        refine aw_i2l C (dec D_Mod_makeImage rfl) ?_
        refine aw_iconst (v := 1) C (dec D_Mod_makeImage rfl) (by decide) ?_
        refine aw_cv C ci_Mod_125 [_, _, _] (c_Mod_putBytes _ _ _ _ _ _ 0 _ 1 (by omega)) (dec D_Mod_makeImage rfl) rcM rfl (fpW Fw) (Nat.le_of_ble_eq_true rfl) (by decide) ⟨by decide, by decide⟩ (fun v w2 hp => ?_) (fun _ _ h => by cases h.1)
        obtain ⟨hv, rfl⟩ := hp
        cases hv
        refine aw_iconst (v := 0) C (dec D_Mod_makeImage rfl) (by decide) ?_
        refine aw_istore_n (i := 2) C (dec D_Mod_makeImage rfl) rfl (by decide) ?_
        exact lp3 102 0 (by omega) (by omega)
      · try simp only [mI_I, mL_I, mA_I, mJ_I, mI_L, mL_L, mA_L, mJ_L, mI_A, mL_A, mA_A, mJ_A, mI_J, mL_J, mA_J, mJ_J, cI_I, cL_I, cA_I, cJ_I, cR_I, cN_I, cI_L, cL_L, cA_L, cJ_L, cR_L, cN_L, cI_A, cL_A, cA_A, cJ_A, cR_A, cN_A, cI_J, cL_J, cA_J, cJ_J, cR_J, cN_J, cI_R, cL_R, cA_R, cJ_R, cR_R, cN_R, cI_N, cL_N, cA_N, cJ_N, cR_N, cN_N, ↓reduceIte, Nat.reduceEqDiff, upd_at, updL_at] at hb
        have htf : f < 8 := ix_lt (N := 8) hb
        have hLf : MLn (mImN (mBeh0 m 101) L ch f) L := hL.of (by rw [mImN_A _ _ _ (by decide) (by decide), mBeh0_A _ (by decide)])
        have hCf : MCh (mImN (mBeh0 m 101) L ch f) L ch := hC.of (by rw [mImN_A _ _ _ (by decide) (by decide), mBeh0_A _ (by decide)])
        have hpg := pg_le (hL f htf).2
        refine aw_iconst (v := 1) C (dec D_Mod_makeImage rfl) (by decide) ?_
        refine aw_istore_n (i := 3) C (dec D_Mod_makeImage rfl) rfl (by decide) ?_
        have lp4 : ∀ (n2 i : Nat) , (pg (L f) + (1 - pg (L f))) - i < n2 → i ≤ (pg (L f) + (1 - pg (L f))) → 1 ≤ i → AW E false 0 0 (wld (eG E) a c (mLk (mImN (mBeh0 m 101) L ch f) ch f (i - 1)) o) 31 [(0, .ref (a 30 0)), (1, .int x), (2, .int (nI f)), (3, .int (nI i))] [] := by
          intro n2
          induction n2 with
          | zero => intro i  h1 h2 h0; omega
          | succ n2 ih2 =>
            intro i  h1i h2i h0i
            refine aw_iload_n (i := 3) C (dec D_Mod_makeImage rfl) rfl rfl ?_
            refine aw_aload_n (i := 0) C (dec D_Mod_makeImage rfl) rfl rfl ?_
            refine aw_iload_n (i := 2) C (dec D_Mod_makeImage rfl) rfl rfl ?_
            have hLi : MLn (mLk (mImN (mBeh0 m 101) L ch f) ch f (i - 1)) L := hLf.of (mLk_A _ _ _ (by decide) _)
            have hCi : MCh (mLk (mImN (mBeh0 m 101) L ch f) ch f (i - 1)) L ch := hCf.of (mLk_A _ _ _ (by decide) _)
            refine aw_cv C ci_Mod_122 [_] (c_Mod_pages _ _ _ _ _ _ f htf) (dec D_Mod_makeImage rfl) rcM rfl fpP (Nat.le_of_ble_eq_true rfl) (by decide) ⟨by decide, by decide⟩ (fun v w2 hp => ?_) (fun _ _ h => by cases h.1)
            obtain ⟨hv, rfl⟩ := hp
            cases hv
            rw [pgE (hLi f htf).1 (hLi f htf).2]
            refine aw_icmp_ge (tgt := 75) C (dec D_Mod_makeImage rfl) (by decide) (fun hb4 => ?_) (fun hb4 => ?_)
            · try simp only [mI_I, mL_I, mA_I, mJ_I, mI_L, mL_L, mA_L, mJ_L, mI_A, mL_A, mA_A, mJ_A, mI_J, mL_J, mA_J, mJ_J, cI_I, cL_I, cA_I, cJ_I, cR_I, cN_I, cI_L, cL_L, cA_L, cJ_L, cR_L, cN_L, cI_A, cL_A, cA_A, cJ_A, cR_A, cN_A, cI_J, cL_J, cA_J, cJ_J, cR_J, cN_J, cI_R, cL_R, cA_R, cJ_R, cR_R, cN_R, cI_N, cL_N, cA_N, cJ_N, cR_N, cN_N, ↓reduceIte, Nat.reduceEqDiff, upd_at, updL_at] at hb4
              have e9 : i = (pg (L f) + (1 - pg (L f))) := by have := ix_ge (N := (pg (L f))) hb4; omega
              subst e9
              refine AW.ls [(0, .ref (a 30 0)), (1, .int x), (2, .int (nI f))] rfl ?_
              have hLj := hLi; have hCj := hCi
              refine aw_aload_n (i := 0) C (dec D_Mod_makeImage rfl) rfl rfl ?_
              refine aw_iconst (v := 1) C (dec D_Mod_makeImage rfl) (by decide) ?_
              refine aw_bipush (v := 7) C (dec D_Mod_makeImage rfl) (by decide) ?_
              refine aw_iload_n (i := 2) C (dec D_Mod_makeImage rfl) rfl rfl ?_
              refine aw_imul C (dec D_Mod_makeImage rfl) ?_
              refine aw_iadd C (dec D_Mod_makeImage rfl) ?_
              rw [show (1 : Int32) = nI 1 from rfl, nI_k7]
              refine aw_aload_n (i := 0) C (dec D_Mod_makeImage rfl) rfl rfl ?_
              refine gf_Mod_25 C (dec D_Mod_makeImage rfl) ?_
              refine aw_iload_n (i := 2) C (dec D_Mod_makeImage rfl) rfl rfl ?_
              refine al_M3 C f (dec D_Mod_makeImage rfl) (ix_of htf) ?_
              refine aw_i2l C (dec D_Mod_makeImage rfl) ?_
              refine aw_iconst (v := 4) C (dec D_Mod_makeImage rfl) (by decide) ?_
              refine aw_cv C ci_Mod_125 [_, _, _] (c_Mod_putBytes _ _ _ _ _ _ (1 + 7 * f) _ 4 (by omega)) (dec D_Mod_makeImage rfl) rcM rfl (fpW Fw) (Nat.le_of_ble_eq_true rfl) (by decide) ⟨by decide, by decide⟩ (fun v w2 hp => ?_) (fun _ _ h => by cases h.1)
              obtain ⟨hv, rfl⟩ := hp
              cases hv
              refine aw_aload_n (i := 0) C (dec D_Mod_makeImage rfl) rfl rfl ?_
              refine aw_iconst (v := 5) C (dec D_Mod_makeImage rfl) (by decide) ?_
              refine aw_bipush (v := 7) C (dec D_Mod_makeImage rfl) (by decide) ?_
              refine aw_iload_n (i := 2) C (dec D_Mod_makeImage rfl) rfl rfl ?_
              refine aw_imul C (dec D_Mod_makeImage rfl) ?_
              refine aw_iadd C (dec D_Mod_makeImage rfl) ?_
              rw [show (5 : Int32) = nI 5 from rfl, nI_k7]
              have hLk : MLn (mPutB (mLk (mImN (mBeh0 m 101) L ch f) ch f ((pg (L f) + (1 - pg (L f))) - 1)) (1 + 7 * f) (mA (mLk (mImN (mBeh0 m 101) L ch f) ch f ((pg (L f) + (1 - pg (L f))) - 1)) 3 f).toInt64 4) L := hLf.of (by rw [mPutB_A _ _ _ (by decide), mLk_A _ _ _ (by decide)])
              refine aw_aload_n (i := 0) C (dec D_Mod_makeImage rfl) rfl rfl ?_
              refine aw_iload_n (i := 2) C (dec D_Mod_makeImage rfl) rfl rfl ?_
              refine aw_cv C ci_Mod_122 [_] (c_Mod_pages _ _ _ _ _ _ f htf) (dec D_Mod_makeImage rfl) rcM rfl fpP (Nat.le_of_ble_eq_true rfl) (by decide) ⟨by decide, by decide⟩ (fun v w2 hp => ?_) (fun _ _ h => by cases h.1)
              obtain ⟨hv, rfl⟩ := hp
              cases hv
              rw [pgE (hLk f htf).1 (hLk f htf).2]
              refine aw_if_le (tgt := 121) C (dec D_Mod_makeImage rfl) (by decide) (fun h105 => ?_) (fun h105 => ?_)
              · try simp only [mI_I, mL_I, mA_I, mJ_I, mI_L, mL_L, mA_L, mJ_L, mI_A, mL_A, mA_A, mJ_A, mI_J, mL_J, mA_J, mJ_J, cI_I, cL_I, cA_I, cJ_I, cR_I, cN_I, cI_L, cL_L, cA_L, cJ_L, cR_L, cN_L, cI_A, cL_A, cA_A, cJ_A, cR_A, cN_A, cI_J, cL_J, cA_J, cJ_J, cR_J, cN_J, cI_R, cL_R, cA_R, cJ_R, cR_R, cN_R, cI_N, cL_N, cA_N, cJ_N, cR_N, cN_N, ↓reduceIte, Nat.reduceEqDiff, upd_at, updL_at] at h105
                have ez : pg (L f) = 0 := by have := (nI_leI (a := pg (L f)) (b := 0) (by omega) (by omega)).mp h105; omega
                refine aw_lconst (v := 0) C (dec D_Mod_makeImage rfl) (by decide) ?_
                refine aw_iconst (v := 1) C (dec D_Mod_makeImage rfl) (by decide) ?_
                refine aw_cv C ci_Mod_125 [_, _, _] (c_Mod_putBytes _ _ _ _ _ _ (5 + 7 * f) _ 1 (by omega)) (dec D_Mod_makeImage rfl) rcM rfl (fpW Fw) (Nat.le_of_ble_eq_true rfl) (by decide) ⟨by decide, by decide⟩ (fun v w2 hp => ?_) (fun _ _ h => by cases h.1)
                obtain ⟨hv, rfl⟩ := hp
                cases hv
                refine aw_aload_n (i := 0) C (dec D_Mod_makeImage rfl) rfl rfl ?_
                refine aw_bipush (v := 6) C (dec D_Mod_makeImage rfl) (by decide) ?_
                refine aw_bipush (v := 7) C (dec D_Mod_makeImage rfl) (by decide) ?_
                refine aw_iload_n (i := 2) C (dec D_Mod_makeImage rfl) rfl rfl ?_
                refine aw_imul C (dec D_Mod_makeImage rfl) ?_
                refine aw_iadd C (dec D_Mod_makeImage rfl) ?_
                rw [show (6 : Int32) = nI 6 from rfl, nI_k7]
                refine aw_aload_n (i := 0) C (dec D_Mod_makeImage rfl) rfl rfl ?_
                refine gf_Mod_29 C (dec D_Mod_makeImage rfl) ?_
                refine aw_iload_n (i := 2) C (dec D_Mod_makeImage rfl) rfl rfl ?_
                refine al_M4 C f (dec D_Mod_makeImage rfl) (ix_of htf) ?_
                refine aw_i2l C (dec D_Mod_makeImage rfl) ?_
                refine aw_iconst (v := 2) C (dec D_Mod_makeImage rfl) (by decide) ?_
                refine aw_cv C ci_Mod_125 [_, _, _] (c_Mod_putBytes _ _ _ _ _ _ (6 + 7 * f) _ 2 (by omega)) (dec D_Mod_makeImage rfl) rcM rfl (fpW Fw) (Nat.le_of_ble_eq_true rfl) (by decide) ⟨by decide, by decide⟩ (fun v w2 hp => ?_) (fun _ _ h => by cases h.1)
                obtain ⟨hv, rfl⟩ := hp
                cases hv
                refine aw_iinc C (dec D_Mod_makeImage rfl) rfl (nI_inc f) (by decide) ?_
                refine aw_goto (tgt := 23) C (dec D_Mod_makeImage rfl) (by decide) ?_
                have k9 := ih (f + 1) (by omega) (by omega)
                simp only [mImN, mImF] at k9
                rw [if_pos ez] at k9
                exact k9
              · try simp only [mI_I, mL_I, mA_I, mJ_I, mI_L, mL_L, mA_L, mJ_L, mI_A, mL_A, mA_A, mJ_A, mI_J, mL_J, mA_J, mJ_J, cI_I, cL_I, cA_I, cJ_I, cR_I, cN_I, cI_L, cL_L, cA_L, cJ_L, cR_L, cN_L, cI_A, cL_A, cA_A, cJ_A, cR_A, cN_A, cI_J, cL_J, cA_J, cJ_J, cR_J, cN_J, cI_R, cL_R, cA_R, cJ_R, cR_R, cN_R, cI_N, cL_N, cA_N, cJ_N, cR_N, cN_N, ↓reduceIte, Nat.reduceEqDiff, upd_at, updL_at] at h105
                have ez : ¬ pg (L f) = 0 := by have := mt (nI_leI (a := pg (L f)) (b := 0) (by omega) (by omega)).mpr h105; omega
                refine aw_aload_n (i := 0) C (dec D_Mod_makeImage rfl) rfl rfl ?_
                refine gf_Mod_32 C (dec D_Mod_makeImage rfl) ?_
                refine aw_bipush (v := 64) C (dec D_Mod_makeImage rfl) (by decide) ?_
                refine aw_iload_n (i := 2) C (dec D_Mod_makeImage rfl) rfl rfl ?_
                refine aw_imul C (dec D_Mod_makeImage rfl) ?_
                rw [nI_64]
                refine al_M5 C (64 * f) (dec D_Mod_makeImage rfl) (ix_of (by omega)) ?_
                refine aw_i2l C (dec D_Mod_makeImage rfl) ?_
                refine aw_goto (tgt := 122) C (dec D_Mod_makeImage rfl) (by decide) ?_
                refine aw_iconst (v := 1) C (dec D_Mod_makeImage rfl) (by decide) ?_
                refine aw_cv C ci_Mod_125 [_, _, _] (c_Mod_putBytes _ _ _ _ _ _ (5 + 7 * f) _ 1 (by omega)) (dec D_Mod_makeImage rfl) rcM rfl (fpW Fw) (Nat.le_of_ble_eq_true rfl) (by decide) ⟨by decide, by decide⟩ (fun v w2 hp => ?_) (fun _ _ h => by cases h.1)
                obtain ⟨hv, rfl⟩ := hp
                cases hv
                refine aw_aload_n (i := 0) C (dec D_Mod_makeImage rfl) rfl rfl ?_
                refine aw_bipush (v := 6) C (dec D_Mod_makeImage rfl) (by decide) ?_
                refine aw_bipush (v := 7) C (dec D_Mod_makeImage rfl) (by decide) ?_
                refine aw_iload_n (i := 2) C (dec D_Mod_makeImage rfl) rfl rfl ?_
                refine aw_imul C (dec D_Mod_makeImage rfl) ?_
                refine aw_iadd C (dec D_Mod_makeImage rfl) ?_
                rw [show (6 : Int32) = nI 6 from rfl, nI_k7]
                refine aw_aload_n (i := 0) C (dec D_Mod_makeImage rfl) rfl rfl ?_
                refine gf_Mod_29 C (dec D_Mod_makeImage rfl) ?_
                refine aw_iload_n (i := 2) C (dec D_Mod_makeImage rfl) rfl rfl ?_
                refine al_M4 C f (dec D_Mod_makeImage rfl) (ix_of htf) ?_
                refine aw_i2l C (dec D_Mod_makeImage rfl) ?_
                refine aw_iconst (v := 2) C (dec D_Mod_makeImage rfl) (by decide) ?_
                refine aw_cv C ci_Mod_125 [_, _, _] (c_Mod_putBytes _ _ _ _ _ _ (6 + 7 * f) _ 2 (by omega)) (dec D_Mod_makeImage rfl) rcM rfl (fpW Fw) (Nat.le_of_ble_eq_true rfl) (by decide) ⟨by decide, by decide⟩ (fun v w2 hp => ?_) (fun _ _ h => by cases h.1)
                obtain ⟨hv, rfl⟩ := hp
                cases hv
                refine aw_iinc C (dec D_Mod_makeImage rfl) rfl (nI_inc f) (by decide) ?_
                refine aw_goto (tgt := 23) C (dec D_Mod_makeImage rfl) (by decide) ?_
                have k9 := ih (f + 1) (by omega) (by omega)
                simp only [mImN, mImF] at k9
                rw [if_neg ez] at k9
                exact k9
            · try simp only [mI_I, mL_I, mA_I, mJ_I, mI_L, mL_L, mA_L, mJ_L, mI_A, mL_A, mA_A, mJ_A, mI_J, mL_J, mA_J, mJ_J, cI_I, cL_I, cA_I, cJ_I, cR_I, cN_I, cI_L, cL_L, cA_L, cJ_L, cR_L, cN_L, cI_A, cL_A, cA_A, cJ_A, cR_A, cN_A, cI_J, cL_J, cA_J, cJ_J, cR_J, cN_J, cI_R, cL_R, cA_R, cJ_R, cR_R, cN_R, cI_N, cL_N, cA_N, cJ_N, cR_N, cN_N, ↓reduceIte, Nat.reduceEqDiff, upd_at, updL_at] at hb4
              have hti : i < (pg (L f)) := ix_lt (N := (pg (L f))) hb4
              have hc1 := hCi f (i - 1) htf (by omega)
              refine aw_aload_n (i := 0) C (dec D_Mod_makeImage rfl) rfl rfl ?_
              refine gf_Mod_50 C (dec D_Mod_makeImage rfl) ?_
              refine aw_aload_n (i := 0) C (dec D_Mod_makeImage rfl) rfl rfl ?_
              refine gf_Mod_32 C (dec D_Mod_makeImage rfl) ?_
              refine aw_bipush (v := 64) C (dec D_Mod_makeImage rfl) (by decide) ?_
              refine aw_iload_n (i := 2) C (dec D_Mod_makeImage rfl) rfl rfl ?_
              refine aw_imul C (dec D_Mod_makeImage rfl) ?_
              refine aw_iload_n (i := 3) C (dec D_Mod_makeImage rfl) rfl rfl ?_
              refine aw_iadd C (dec D_Mod_makeImage rfl) ?_
              refine aw_iconst (v := 1) C (dec D_Mod_makeImage rfl) (by decide) ?_
              refine aw_isub C (dec D_Mod_makeImage rfl) ?_
              refine al_M5 C (64 * f + (i - 1)) (dec D_Mod_makeImage rfl) (ix_eq (nI_ch1 h0i) (by omega)) ?_
              rw [hc1.1]
              refine aw_aload_n (i := 0) C (dec D_Mod_makeImage rfl) rfl rfl ?_
              refine gf_Mod_32 C (dec D_Mod_makeImage rfl) ?_
              refine aw_bipush (v := 64) C (dec D_Mod_makeImage rfl) (by decide) ?_
              refine aw_iload_n (i := 2) C (dec D_Mod_makeImage rfl) rfl rfl ?_
              refine aw_imul C (dec D_Mod_makeImage rfl) ?_
              refine aw_iload_n (i := 3) C (dec D_Mod_makeImage rfl) rfl rfl ?_
              refine aw_iadd C (dec D_Mod_makeImage rfl) ?_
              refine al_M5 C (64 * f + i) (dec D_Mod_makeImage rfl) (ix_eq (nI_ch f i) (by omega)) ?_
              refine as_M11 C Fw (ch f (i - 1)) (dec D_Mod_makeImage rfl) (ix_of (by omega)) ?_
              refine aw_iinc C (dec D_Mod_makeImage rfl) rfl (nI_inc i) (by decide) ?_
              refine aw_goto (tgt := 31) C (dec D_Mod_makeImage rfl) (by decide) ?_
              have e8 : mLk (mImN (mBeh0 m 101) L ch f) ch f (i + 1 - 1) = mS (mLk (mImN (mBeh0 m 101) L ch f) ch f (i - 1)) 11 (ch f (i - 1)) (mA (mLk (mImN (mBeh0 m 101) L ch f) ch f (i - 1)) 5 (64 * f + i)) := by
                obtain ⟨j, rfl⟩ : ∃ j, i = j + 1 := ⟨i - 1, by omega⟩
                rfl
              have k8 := ih2 (i + 1) (by omega) (by omega) (by omega)
              rw [e8] at k8
              exact k8
        exact lp4 (pg (L f) + 2) 1 (by omega) (by omega) (by omega)
  have lp1 : ∀ (n t : Nat) , 101 - t < n → t ≤ 101 → AW E false 0 0 (wld (eG E) a c (mBeh0 m t) o) 2 [(0, .ref (a 30 0)), (1, .int x), (2, .int (nI t))] [] := by
    intro n
    induction n with
    | zero => intro t  h1 h2; omega
    | succ n ih =>
      intro t  h1t h2t
      refine aw_iload_n (i := 2) C (dec D_Mod_makeImage rfl) rfl rfl ?_
      refine aw_bipush (v := 101) C (dec D_Mod_makeImage rfl) (by decide) ?_
      refine aw_icmp_ge (tgt := 21) C (dec D_Mod_makeImage rfl) (by decide) (fun hb => ?_) (fun hb => ?_)
      · try simp only [mI_I, mL_I, mA_I, mJ_I, mI_L, mL_L, mA_L, mJ_L, mI_A, mL_A, mA_A, mJ_A, mI_J, mL_J, mA_J, mJ_J, cI_I, cL_I, cA_I, cJ_I, cR_I, cN_I, cI_L, cL_L, cA_L, cJ_L, cR_L, cN_L, cI_A, cL_A, cA_A, cJ_A, cR_A, cN_A, cI_J, cL_J, cA_J, cJ_J, cR_J, cN_J, cI_R, cL_R, cA_R, cJ_R, cR_R, cN_R, cI_N, cL_N, cA_N, cJ_N, cR_N, cN_N, ↓reduceIte, Nat.reduceEqDiff, upd_at, updL_at] at hb
        have e9 : t = 101 := by have := ix_ge (N := 101) hb; omega
        subst e9
        refine AW.ls [(0, .ref (a 30 0)), (1, .int x)] rfl ?_
        refine aw_iconst (v := 0) C (dec D_Mod_makeImage rfl) (by decide) ?_
        refine aw_istore_n (i := 2) C (dec D_Mod_makeImage rfl) rfl (by decide) ?_
        exact lp2 9 0 (by omega) (by omega)
      · try simp only [mI_I, mL_I, mA_I, mJ_I, mI_L, mL_L, mA_L, mJ_L, mI_A, mL_A, mA_A, mJ_A, mI_J, mL_J, mA_J, mJ_J, cI_I, cL_I, cA_I, cJ_I, cR_I, cN_I, cI_L, cL_L, cA_L, cJ_L, cR_L, cN_L, cI_A, cL_A, cA_A, cJ_A, cR_A, cN_A, cI_J, cL_J, cA_J, cJ_J, cR_J, cN_J, cI_R, cL_R, cA_R, cJ_R, cR_R, cN_R, cI_N, cL_N, cA_N, cJ_N, cR_N, cN_N, ↓reduceIte, Nat.reduceEqDiff, upd_at, updL_at] at hb
        have htt : t < 101 := ix_lt (N := 101) hb
        refine aw_aload_n (i := 0) C (dec D_Mod_makeImage rfl) rfl rfl ?_
        refine gf_Mod_50 C (dec D_Mod_makeImage rfl) ?_
        refine aw_iload_n (i := 2) C (dec D_Mod_makeImage rfl) rfl rfl ?_
        refine aw_iconst (v := 0) C (dec D_Mod_makeImage rfl) (by decide) ?_
        refine as_M11 C Fw t (dec D_Mod_makeImage rfl) (ix_of htt) ?_
        refine aw_iinc C (dec D_Mod_makeImage rfl) rfl (nI_inc t) (by decide) ?_
        refine aw_goto (tgt := 2) C (dec D_Mod_makeImage rfl) (by decide) ?_
        exact ih (t + 1) (by omega) (by omega)
  refine aw_iconst (v := 0) C (dec D_Mod_makeImage rfl) (by decide) ?_
  refine aw_istore_n (i := 2) C (dec D_Mod_makeImage rfl) rfl (by decide) ?_
  exact AW.impure (lp1 102 0 (by omega) (by omega))
