/-! the model: loops over its arrays; printed by tools/m21.py -/
def mDropN (m : MM) : Nat → MM
  | 0 => m
  | t + 1 => mDrop (mDropN m t) t
def mHeld0 (m : MM) : Nat → MM
  | 0 => m
  | t + 1 => mS (mHeld0 m t) 9 t 0
def mForget (m : MM) : MM := smI (smI (mHeld0 (mDropN (smI m 5 0) 8) 101) 8 0) 9 0
def mByte (v : Int64) (k : Nat) : Int32 := ((v >>> ((8 * nI k).toInt64 &&& 63)) &&& 255).toInt32
def mPutB (m : MM) (p : Nat) (v : Int64) : Nat → MM
  | 0 => m
  | k + 1 => mS (mPutB m p v k) 10 (p + k) (mByte v k)
def mGetB (m : MM) (p : Nat) : Nat → Int32
  | 0 => 0
  | k + 1 => mGetB m p k ||| (mA m 10 (p + k) <<< ((8 * nI k) &&& 31))
def mSumN (m : MM) : Nat → Int32
  | 0 => 1
  | k + 1 => mSumN m k + mA m 10 k
def mSum (m : MM) : Int32 := mSumN m 158 - mSumN m 158 / 65536 * 65536
def mLoadN (m : MM) (wh : Nat) : Nat → MM
  | 0 => m
  | p + 1 => mPutB (mLoadN m wh p) (8 * p) (mJ (mLoadN m wh p) 2 (20 * wh + p)) 8
def mValid (m : MM) : Int32 := if mGetB m 158 2 = mSum m then 1 else 0
def mSave (m : MM) (f : Nat) : MM := if mA m 8 f = 0 then m else mS (mWrite m (mA m 6 f).toNatClampNeg (mJ m 7 f)) 8 f 0
def mLoad (m : MM) (f p : Nat) : MM := if mA m 6 f = nI p then m else mS (mSJ (mRead (mSave m f) p) 7 f (mReadR (mSave m f) p)) 6 f (nI p)
theorem nI_mul8 (k : Nat) : (8 : Int32) * nI k = nI (8 * k) := pk_mul 8 k
theorem nI_im (wh p : Nat) : (20 : Int32) * nI wh + nI p = nI (20 * wh + p) := by rw [show (20 : Int32) = nI 20 from rfl, pk_mul, nI_add]
theorem nI_ch (f i : Nat) : (64 : Int32) * nI f + nI i = nI (64 * f + i) := by rw [show (64 : Int32) = nI 64 from rfl, pk_mul, nI_add]
theorem c_Mod_forget (l : Launch) (G : GG) (a : AD) (c : CC) (m : MM) (o : OO)  : CT l G y_Mod_forget (.code y_Mod_forget b_Mod_forget 2 none) 1 0 0 (Fyes G) (wld G a c m o) [.ref (a 30 0)] (fun r w2 => r = .inl none ∧ w2 = wld G a c (mForget m) o) := by
  refine CT.of (by decide) (Nat.le_of_ble_eq_true rfl) rfl ?_
  intro E hl hG hF C r hw hex hnm
  subst hl; subst hG
  have Fw : Cw E := fun a h => by rw [hF]; exact h
  have lp2 : ∀ (n t : Nat) , 101 - t < n → t ≤ 101 → AW E false 0 0 (wld (eG E) a c (mHeld0 (mDropN (smI m 5 0) 8) t) o) 26 [(0, .ref (a 30 0)), (1, .int (nI t))] [] := by
    intro n
    induction n with
    | zero => intro t  h1 h2; omega
    | succ n ih =>
      intro t  h1t h2t
      refine aw_iload_n (i := 1) C (dec D_Mod_forget rfl) rfl rfl ?_
      refine aw_bipush (v := 101) C (dec D_Mod_forget rfl) (by decide) ?_
      refine aw_icmp_ge (tgt := 45) C (dec D_Mod_forget rfl) (by decide) (fun hb => ?_) (fun hb => ?_)
      · try simp only [mI_I, mL_I, mA_I, mJ_I, mI_L, mL_L, mA_L, mJ_L, mI_A, mL_A, mA_A, mJ_A, mI_J, mL_J, mA_J, mJ_J, cI_I, cL_I, cA_I, cJ_I, cR_I, cN_I, cI_L, cL_L, cA_L, cJ_L, cR_L, cN_L, cI_A, cL_A, cA_A, cJ_A, cR_A, cN_A, cI_J, cL_J, cA_J, cJ_J, cR_J, cN_J, cI_R, cL_R, cA_R, cJ_R, cR_R, cN_R, cI_N, cL_N, cA_N, cJ_N, cR_N, cN_N, ↓reduceIte, Nat.reduceEqDiff, upd_at, updL_at] at hb
        have e9 : t = 101 := by have := ix_ge (N := 101) hb; omega
        subst e9
        refine aw_aload_n (i := 0) C (dec D_Mod_forget rfl) rfl rfl ?_
        refine aw_iconst (v := 0) C (dec D_Mod_forget rfl) (by decide) ?_
        refine pf_Mod_102 C Fw (dec D_Mod_forget rfl) ?_
        refine aw_aload_n (i := 0) C (dec D_Mod_forget rfl) rfl rfl ?_
        refine aw_iconst (v := 0) C (dec D_Mod_forget rfl) (by decide) ?_
        refine pf_Mod_105 C Fw (dec D_Mod_forget rfl) ?_
        refine aw_ret_v C r (dec D_Mod_forget rfl) (by decide) (by decide) ?_
        exact ⟨rfl, rfl⟩
      · try simp only [mI_I, mL_I, mA_I, mJ_I, mI_L, mL_L, mA_L, mJ_L, mI_A, mL_A, mA_A, mJ_A, mI_J, mL_J, mA_J, mJ_J, cI_I, cL_I, cA_I, cJ_I, cR_I, cN_I, cI_L, cL_L, cA_L, cJ_L, cR_L, cN_L, cI_A, cL_A, cA_A, cJ_A, cR_A, cN_A, cI_J, cL_J, cA_J, cJ_J, cR_J, cN_J, cI_R, cL_R, cA_R, cJ_R, cR_R, cN_R, cI_N, cL_N, cA_N, cJ_N, cR_N, cN_N, ↓reduceIte, Nat.reduceEqDiff, upd_at, updL_at] at hb
        have htt : t < 101 := ix_lt (N := 101) hb
        refine aw_aload_n (i := 0) C (dec D_Mod_forget rfl) rfl rfl ?_
        refine gf_Mod_44 C (dec D_Mod_forget rfl) ?_
        refine aw_iload_n (i := 1) C (dec D_Mod_forget rfl) rfl rfl ?_
        refine aw_iconst (v := 0) C (dec D_Mod_forget rfl) (by decide) ?_
        refine as_M9 C Fw t bz0 (dec D_Mod_forget rfl) (ix_of htt) ?_
        refine aw_iinc C (dec D_Mod_forget rfl) rfl (nI_inc t) (by decide) ?_
        refine aw_goto (tgt := 26) C (dec D_Mod_forget rfl) (by decide) ?_
        exact ih (t + 1) (by omega) (by omega)
  have lp1 : ∀ (n t : Nat) , 8 - t < n → t ≤ 8 → AW E false 0 0 (wld (eG E) a c (mDropN (smI m 5 0) t) o) 7 [(0, .ref (a 30 0)), (1, .int (nI t))] [] := by
    intro n
    induction n with
    | zero => intro t  h1 h2; omega
    | succ n ih =>
      intro t  h1t h2t
      refine aw_iload_n (i := 1) C (dec D_Mod_forget rfl) rfl rfl ?_
      refine aw_bipush (v := 8) C (dec D_Mod_forget rfl) (by decide) ?_
      refine aw_icmp_ge (tgt := 24) C (dec D_Mod_forget rfl) (by decide) (fun hb => ?_) (fun hb => ?_)
      · try simp only [mI_I, mL_I, mA_I, mJ_I, mI_L, mL_L, mA_L, mJ_L, mI_A, mL_A, mA_A, mJ_A, mI_J, mL_J, mA_J, mJ_J, cI_I, cL_I, cA_I, cJ_I, cR_I, cN_I, cI_L, cL_L, cA_L, cJ_L, cR_L, cN_L, cI_A, cL_A, cA_A, cJ_A, cR_A, cN_A, cI_J, cL_J, cA_J, cJ_J, cR_J, cN_J, cI_R, cL_R, cA_R, cJ_R, cR_R, cN_R, cI_N, cL_N, cA_N, cJ_N, cR_N, cN_N, ↓reduceIte, Nat.reduceEqDiff, upd_at, updL_at] at hb
        have e9 : t = 8 := by have := ix_ge (N := 8) hb; omega
        subst e9
        refine AW.ls [(0, .ref (a 30 0))] rfl ?_
        refine aw_iconst (v := 0) C (dec D_Mod_forget rfl) (by decide) ?_
        refine aw_istore_n (i := 1) C (dec D_Mod_forget rfl) rfl (by decide) ?_
        exact lp2 102 0 (by omega) (by omega)
      · try simp only [mI_I, mL_I, mA_I, mJ_I, mI_L, mL_L, mA_L, mJ_L, mI_A, mL_A, mA_A, mJ_A, mI_J, mL_J, mA_J, mJ_J, cI_I, cL_I, cA_I, cJ_I, cR_I, cN_I, cI_L, cL_L, cA_L, cJ_L, cR_L, cN_L, cI_A, cL_A, cA_A, cJ_A, cR_A, cN_A, cI_J, cL_J, cA_J, cJ_J, cR_J, cN_J, cI_R, cL_R, cA_R, cJ_R, cR_R, cN_R, cI_N, cL_N, cA_N, cJ_N, cR_N, cN_N, ↓reduceIte, Nat.reduceEqDiff, upd_at, updL_at] at hb
        have htt : t < 8 := ix_lt (N := 8) hb
        refine aw_aload_n (i := 0) C (dec D_Mod_forget rfl) rfl rfl ?_
        refine aw_iload_n (i := 1) C (dec D_Mod_forget rfl) rfl rfl ?_
        refine aw_cv C ci_Mod_99 [_] (c_Mod_drop _ _ _ _ _ _ _ htt) (dec D_Mod_forget rfl) rcM rfl (fpW Fw) (Nat.le_of_ble_eq_true rfl) (by decide) ⟨by decide, by decide⟩ (fun v w2 hp => ?_) (fun _ _ h => by cases h.1)
        obtain ⟨hv, rfl⟩ := hp
        cases hv
        refine aw_iinc C (dec D_Mod_forget rfl) rfl (nI_inc t) (by decide) ?_
        refine aw_goto (tgt := 7) C (dec D_Mod_forget rfl) (by decide) ?_
        exact ih (t + 1) (by omega) (by omega)
  refine aw_aload_n (i := 0) C (dec D_Mod_forget rfl) rfl rfl ?_
  refine aw_iconst (v := 0) C (dec D_Mod_forget rfl) (by decide) ?_
  refine pf_Mod_77 C Fw bz0 (dec D_Mod_forget rfl) ?_
  refine aw_iconst (v := 0) C (dec D_Mod_forget rfl) (by decide) ?_
  refine aw_istore_n (i := 1) C (dec D_Mod_forget rfl) rfl (by decide) ?_
  exact lp1 9 0 (by omega) (by omega)
theorem c_Mod_putBytes (l : Launch) (G : GG) (a : AD) (c : CC) (m : MM) (o : OO) (p : Nat) (v : Int64) (k : Nat) (hk : p + k ≤ 160) : CT l G y_Mod_putBytes (.code y_Mod_putBytes b_Mod_putBytes 6 none) 0 0 0 (Fyes G) (wld G a c m o) [.ref (a 30 0), .int (nI p), .long v, .int (nI k)] (fun r w2 => r = .inl none ∧ w2 = wld G a c (mPutB m p v k) o) := by
  refine CT.of (by decide) (Nat.le_of_ble_eq_true rfl) rfl ?_
  intro E hl hG hF C r hw hex hnm
  subst hl; subst hG
  have Fw : Cw E := fun a h => by rw [hF]; exact h
  have lp : ∀ (n t : Nat) , k - t < n → t ≤ k → AW E false 0 0 (wld (eG E) a c (mPutB m p v t) o) 3 [(0, .ref (a 30 0)), (1, .int (nI p)), (2, .long v), (4, .int (nI k)), (5, .int (nI t))] [] := by
    intro n
    induction n with
    | zero => intro t  h1 h2; omega
    | succ n ih =>
      intro t  h1t h2t
      refine aw_iload C (dec D_Mod_putBytes rfl) rfl ?_
      refine aw_iload C (dec D_Mod_putBytes rfl) rfl ?_
      refine aw_icmp_ge (tgt := 37) C (dec D_Mod_putBytes rfl) (by decide) (fun hb => ?_) (fun hb => ?_)
      · try simp only [mI_I, mL_I, mA_I, mJ_I, mI_L, mL_L, mA_L, mJ_L, mI_A, mL_A, mA_A, mJ_A, mI_J, mL_J, mA_J, mJ_J, cI_I, cL_I, cA_I, cJ_I, cR_I, cN_I, cI_L, cL_L, cA_L, cJ_L, cR_L, cN_L, cI_A, cL_A, cA_A, cJ_A, cR_A, cN_A, cI_J, cL_J, cA_J, cJ_J, cR_J, cN_J, cI_R, cL_R, cA_R, cJ_R, cR_R, cN_R, cI_N, cL_N, cA_N, cJ_N, cR_N, cN_N, ↓reduceIte, Nat.reduceEqDiff, upd_at, updL_at] at hb
        have e9 : t = k := by have := ix_ge (N := k) hb; omega
        subst e9
        refine aw_ret_v C r (dec D_Mod_putBytes rfl) (by decide) (by decide) ?_
        exact ⟨rfl, rfl⟩
      · try simp only [mI_I, mL_I, mA_I, mJ_I, mI_L, mL_L, mA_L, mJ_L, mI_A, mL_A, mA_A, mJ_A, mI_J, mL_J, mA_J, mJ_J, cI_I, cL_I, cA_I, cJ_I, cR_I, cN_I, cI_L, cL_L, cA_L, cJ_L, cR_L, cN_L, cI_A, cL_A, cA_A, cJ_A, cR_A, cN_A, cI_J, cL_J, cA_J, cJ_J, cR_J, cN_J, cI_R, cL_R, cA_R, cJ_R, cR_R, cN_R, cI_N, cL_N, cA_N, cJ_N, cR_N, cN_N, ↓reduceIte, Nat.reduceEqDiff, upd_at, updL_at] at hb
        have htt : t < k := ix_lt (N := k) hb
        refine aw_aload_n (i := 0) C (dec D_Mod_putBytes rfl) rfl rfl ?_
        refine gf_Mod_47 C (dec D_Mod_putBytes rfl) ?_
        refine aw_iload_n (i := 1) C (dec D_Mod_putBytes rfl) rfl rfl ?_
        refine aw_iload C (dec D_Mod_putBytes rfl) rfl ?_
        refine aw_iadd C (dec D_Mod_putBytes rfl) ?_
        refine aw_lload_n (i := 2) C (dec D_Mod_putBytes rfl) rfl rfl ?_
        refine aw_bipush (v := 8) C (dec D_Mod_putBytes rfl) (by decide) ?_
        refine aw_iload C (dec D_Mod_putBytes rfl) rfl ?_
        refine aw_imul C (dec D_Mod_putBytes rfl) ?_
        refine aw_lshr C (dec D_Mod_putBytes rfl) ?_
        refine aw_ldc2 (v := 255) C (dec D_Mod_putBytes rfl) (List.mem_of_getElem? (i := 968) (by decide +kernel)) ?_
        refine aw_land C (dec D_Mod_putBytes rfl) ?_
        refine aw_l2i C (dec D_Mod_putBytes rfl) ?_
        refine as_M10 C Fw (p + t) (dec D_Mod_putBytes rfl) (ix_eq (nI_add p t) (by omega)) ?_
        refine aw_iinc C (dec D_Mod_putBytes rfl) rfl (nI_inc t) (by decide) ?_
        refine aw_goto (tgt := 3) C (dec D_Mod_putBytes rfl) (by decide) ?_
        exact ih (t + 1) (by omega) (by omega)
  refine aw_iconst (v := 0) C (dec D_Mod_putBytes rfl) (by decide) ?_
  refine aw_istore C (dec D_Mod_putBytes rfl) (by decide) ?_
  exact AW.impure (lp (k + 1) 0 (by omega) (by omega))
theorem c_Mod_getBytes (l : Launch) (G : GG) (a : AD) (c : CC) (m : MM) (o : OO) (p k : Nat) (hk : p + k ≤ 160) : CT l G y_Mod_getBytes (.code y_Mod_getBytes b_Mod_getBytes 5 (some .int)) 0 0 0 Fno (wld G a c m o) [.ref (a 30 0), .int (nI p), .int (nI k)] (fun r w2 => r = .inl (some (.int (mGetB m p k))) ∧ w2 = wld G a c m o) := by
  refine CT.of (by decide) (Nat.le_of_ble_eq_true rfl) rfl ?_
  intro E hl hG hF C r hw hex hnm
  subst hl; subst hG
  have lp : ∀ (n t : Nat) , k - t < n → t ≤ k → AW E true 0 0 (wld (eG E) a c m o) 5 [(0, .ref (a 30 0)), (1, .int (nI p)), (2, .int (nI k)), (3, .int (mGetB m p t)), (4, .int (nI t))] [] := by
    intro n
    induction n with
    | zero => intro t  h1 h2; omega
    | succ n ih =>
      intro t  h1t h2t
      refine aw_iload C (dec D_Mod_getBytes rfl) rfl ?_
      refine aw_iload_n (i := 2) C (dec D_Mod_getBytes rfl) rfl rfl ?_
      refine aw_icmp_ge (tgt := 35) C (dec D_Mod_getBytes rfl) (by decide) (fun hb => ?_) (fun hb => ?_)
      · try simp only [mI_I, mL_I, mA_I, mJ_I, mI_L, mL_L, mA_L, mJ_L, mI_A, mL_A, mA_A, mJ_A, mI_J, mL_J, mA_J, mJ_J, cI_I, cL_I, cA_I, cJ_I, cR_I, cN_I, cI_L, cL_L, cA_L, cJ_L, cR_L, cN_L, cI_A, cL_A, cA_A, cJ_A, cR_A, cN_A, cI_J, cL_J, cA_J, cJ_J, cR_J, cN_J, cI_R, cL_R, cA_R, cJ_R, cR_R, cN_R, cI_N, cL_N, cA_N, cJ_N, cR_N, cN_N, ↓reduceIte, Nat.reduceEqDiff, upd_at, updL_at] at hb
        have e9 : t = k := by have := ix_ge (N := k) hb; omega
        subst e9
        refine aw_iload_n (i := 3) C (dec D_Mod_getBytes rfl) rfl rfl ?_
        refine aw_ret_i C r (dec D_Mod_getBytes rfl) rfl (by decide) (by decide) ?_
        exact ⟨rfl, rfl⟩
      · try simp only [mI_I, mL_I, mA_I, mJ_I, mI_L, mL_L, mA_L, mJ_L, mI_A, mL_A, mA_A, mJ_A, mI_J, mL_J, mA_J, mJ_J, cI_I, cL_I, cA_I, cJ_I, cR_I, cN_I, cI_L, cL_L, cA_L, cJ_L, cR_L, cN_L, cI_A, cL_A, cA_A, cJ_A, cR_A, cN_A, cI_J, cL_J, cA_J, cJ_J, cR_J, cN_J, cI_R, cL_R, cA_R, cJ_R, cR_R, cN_R, cI_N, cL_N, cA_N, cJ_N, cR_N, cN_N, ↓reduceIte, Nat.reduceEqDiff, upd_at, updL_at] at hb
        have htt : t < k := ix_lt (N := k) hb
        refine aw_iload_n (i := 3) C (dec D_Mod_getBytes rfl) rfl rfl ?_
        refine aw_aload_n (i := 0) C (dec D_Mod_getBytes rfl) rfl rfl ?_
        refine gf_Mod_47 C (dec D_Mod_getBytes rfl) ?_
        refine aw_iload_n (i := 1) C (dec D_Mod_getBytes rfl) rfl rfl ?_
        refine aw_iload C (dec D_Mod_getBytes rfl) rfl ?_
        refine aw_iadd C (dec D_Mod_getBytes rfl) ?_
        refine al_M10 C (p + t) (dec D_Mod_getBytes rfl) (ix_eq (nI_add p t) (by omega)) ?_
        refine aw_bipush (v := 8) C (dec D_Mod_getBytes rfl) (by decide) ?_
        refine aw_iload C (dec D_Mod_getBytes rfl) rfl ?_
        refine aw_imul C (dec D_Mod_getBytes rfl) ?_
        refine aw_ishl C (dec D_Mod_getBytes rfl) ?_
        refine aw_ior C (dec D_Mod_getBytes rfl) ?_
        refine aw_istore_n (i := 3) C (dec D_Mod_getBytes rfl) rfl (by decide) ?_
        refine aw_iinc C (dec D_Mod_getBytes rfl) rfl (nI_inc t) (by decide) ?_
        refine aw_goto (tgt := 5) C (dec D_Mod_getBytes rfl) (by decide) ?_
        exact ih (t + 1) (by omega) (by omega)
  refine aw_iconst (v := 0) C (dec D_Mod_getBytes rfl) (by decide) ?_
  refine aw_istore_n (i := 3) C (dec D_Mod_getBytes rfl) rfl (by decide) ?_
  refine aw_iconst (v := 0) C (dec D_Mod_getBytes rfl) (by decide) ?_
  refine aw_istore C (dec D_Mod_getBytes rfl) (by decide) ?_
  exact lp (k + 1) 0 (by omega) (by omega)
theorem c_Mod_sumOfImage (l : Launch) (G : GG) (a : AD) (c : CC) (m : MM) (o : OO)  : CT l G y_Mod_sumOfImage (.code y_Mod_sumOfImage b_Mod_sumOfImage 3 (some .int)) 0 0 0 Fno (wld G a c m o) [.ref (a 30 0)] (fun r w2 => r = .inl (some (.int (mSum m))) ∧ w2 = wld G a c m o) := by
  refine CT.of (by decide) (Nat.le_of_ble_eq_true rfl) rfl ?_
  intro E hl hG hF C r hw hex hnm
  subst hl; subst hG
  have lp : ∀ (n t : Nat) , 158 - t < n → t ≤ 158 → AW E true 0 0 (wld (eG E) a c m o) 4 [(0, .ref (a 30 0)), (1, .int (mSumN m t)), (2, .int (nI t))] [] := by
    intro n
    induction n with
    | zero => intro t  h1 h2; omega
    | succ n ih =>
      intro t  h1t h2t
      refine aw_iload_n (i := 2) C (dec D_Mod_sumOfImage rfl) rfl rfl ?_
      refine aw_sipush (v := 158) C (dec D_Mod_sumOfImage rfl) (by decide) ?_
      refine aw_icmp_ge (tgt := 26) C (dec D_Mod_sumOfImage rfl) (by decide) (fun hb => ?_) (fun hb => ?_)
      · try simp only [mI_I, mL_I, mA_I, mJ_I, mI_L, mL_L, mA_L, mJ_L, mI_A, mL_A, mA_A, mJ_A, mI_J, mL_J, mA_J, mJ_J, cI_I, cL_I, cA_I, cJ_I, cR_I, cN_I, cI_L, cL_L, cA_L, cJ_L, cR_L, cN_L, cI_A, cL_A, cA_A, cJ_A, cR_A, cN_A, cI_J, cL_J, cA_J, cJ_J, cR_J, cN_J, cI_R, cL_R, cA_R, cJ_R, cR_R, cN_R, cI_N, cL_N, cA_N, cJ_N, cR_N, cN_N, ↓reduceIte, Nat.reduceEqDiff, upd_at, updL_at] at hb
        have e9 : t = 158 := by have := ix_ge (N := 158) hb; omega
        subst e9
        refine aw_iload_n (i := 1) C (dec D_Mod_sumOfImage rfl) rfl rfl ?_
        refine aw_ldc (v := 65536) C (dec D_Mod_sumOfImage rfl) (List.mem_of_getElem? (i := 973) (by decide +kernel)) ?_
        refine aw_irem C (dec D_Mod_sumOfImage rfl) (by decide) ?_
        refine aw_ret_i C r (dec D_Mod_sumOfImage rfl) rfl (by decide) (by decide) ?_
        exact ⟨rfl, rfl⟩
      · try simp only [mI_I, mL_I, mA_I, mJ_I, mI_L, mL_L, mA_L, mJ_L, mI_A, mL_A, mA_A, mJ_A, mI_J, mL_J, mA_J, mJ_J, cI_I, cL_I, cA_I, cJ_I, cR_I, cN_I, cI_L, cL_L, cA_L, cJ_L, cR_L, cN_L, cI_A, cL_A, cA_A, cJ_A, cR_A, cN_A, cI_J, cL_J, cA_J, cJ_J, cR_J, cN_J, cI_R, cL_R, cA_R, cJ_R, cR_R, cN_R, cI_N, cL_N, cA_N, cJ_N, cR_N, cN_N, ↓reduceIte, Nat.reduceEqDiff, upd_at, updL_at] at hb
        have htt : t < 158 := ix_lt (N := 158) hb
        refine aw_iload_n (i := 1) C (dec D_Mod_sumOfImage rfl) rfl rfl ?_
        refine aw_aload_n (i := 0) C (dec D_Mod_sumOfImage rfl) rfl rfl ?_
        refine gf_Mod_47 C (dec D_Mod_sumOfImage rfl) ?_
        refine aw_iload_n (i := 2) C (dec D_Mod_sumOfImage rfl) rfl rfl ?_
        refine al_M10 C t (dec D_Mod_sumOfImage rfl) (ix_eq rfl (by omega)) ?_
        refine aw_iadd C (dec D_Mod_sumOfImage rfl) ?_
        refine aw_istore_n (i := 1) C (dec D_Mod_sumOfImage rfl) rfl (by decide) ?_
        refine aw_iinc C (dec D_Mod_sumOfImage rfl) rfl (nI_inc t) (by decide) ?_
        refine aw_goto (tgt := 4) C (dec D_Mod_sumOfImage rfl) (by decide) ?_
        exact ih (t + 1) (by omega) (by omega)
  refine aw_iconst (v := 1) C (dec D_Mod_sumOfImage rfl) (by decide) ?_
  refine aw_istore_n (i := 1) C (dec D_Mod_sumOfImage rfl) rfl (by decide) ?_
  refine aw_iconst (v := 0) C (dec D_Mod_sumOfImage rfl) (by decide) ?_
  refine aw_istore_n (i := 2) C (dec D_Mod_sumOfImage rfl) rfl (by decide) ?_
  exact lp 159 0 (by omega) (by omega)
theorem c_Mod_loadImage (l : Launch) (G : GG) (a : AD) (c : CC) (m : MM) (o : OO) (wh : Nat) (hwh : wh < 2) : CT l G y_Mod_loadImage (.code y_Mod_loadImage b_Mod_loadImage 3 none) 1 0 0 (Fyes G) (wld G a c m o) [.ref (a 30 0), .int (nI wh)] (fun r w2 => r = .inl none ∧ w2 = wld G a c (mLoadN m wh 20) o) := by
  refine CT.of (by decide) (Nat.le_of_ble_eq_true rfl) rfl ?_
  intro E hl hG hF C r hw hex hnm
  subst hl; subst hG
  have Fw : Cw E := fun a h => by rw [hF]; exact h
  have lp : ∀ (n t : Nat) , 20 - t < n → t ≤ 20 → AW E false 0 0 (wld (eG E) a c (mLoadN m wh t) o) 2 [(0, .ref (a 30 0)), (1, .int (nI wh)), (2, .int (nI t))] [] := by
    intro n
    induction n with
    | zero => intro t  h1 h2; omega
    | succ n ih =>
      intro t  h1t h2t
      refine aw_iload_n (i := 2) C (dec D_Mod_loadImage rfl) rfl rfl ?_
      refine aw_bipush (v := 20) C (dec D_Mod_loadImage rfl) (by decide) ?_
      refine aw_icmp_ge (tgt := 35) C (dec D_Mod_loadImage rfl) (by decide) (fun hb => ?_) (fun hb => ?_)
      · try simp only [mI_I, mL_I, mA_I, mJ_I, mI_L, mL_L, mA_L, mJ_L, mI_A, mL_A, mA_A, mJ_A, mI_J, mL_J, mA_J, mJ_J, cI_I, cL_I, cA_I, cJ_I, cR_I, cN_I, cI_L, cL_L, cA_L, cJ_L, cR_L, cN_L, cI_A, cL_A, cA_A, cJ_A, cR_A, cN_A, cI_J, cL_J, cA_J, cJ_J, cR_J, cN_J, cI_R, cL_R, cA_R, cJ_R, cR_R, cN_R, cI_N, cL_N, cA_N, cJ_N, cR_N, cN_N, ↓reduceIte, Nat.reduceEqDiff, upd_at, updL_at] at hb
        have e9 : t = 20 := by have := ix_ge (N := 20) hb; omega
        subst e9
        refine aw_ret_v C r (dec D_Mod_loadImage rfl) (by decide) (by decide) ?_
        exact ⟨rfl, rfl⟩
      · try simp only [mI_I, mL_I, mA_I, mJ_I, mI_L, mL_L, mA_L, mJ_L, mI_A, mL_A, mA_A, mJ_A, mI_J, mL_J, mA_J, mJ_J, cI_I, cL_I, cA_I, cJ_I, cR_I, cN_I, cI_L, cL_L, cA_L, cJ_L, cR_L, cN_L, cI_A, cL_A, cA_A, cJ_A, cR_A, cN_A, cI_J, cL_J, cA_J, cJ_J, cR_J, cN_J, cI_R, cL_R, cA_R, cJ_R, cR_R, cN_R, cI_N, cL_N, cA_N, cJ_N, cR_N, cN_N, ↓reduceIte, Nat.reduceEqDiff, upd_at, updL_at] at hb
        have htt : t < 20 := ix_lt (N := 20) hb
        refine aw_aload_n (i := 0) C (dec D_Mod_loadImage rfl) rfl rfl ?_
        refine aw_bipush (v := 8) C (dec D_Mod_loadImage rfl) (by decide) ?_
        refine aw_iload_n (i := 2) C (dec D_Mod_loadImage rfl) rfl rfl ?_
        refine aw_imul C (dec D_Mod_loadImage rfl) ?_
        refine aw_aload_n (i := 0) C (dec D_Mod_loadImage rfl) rfl rfl ?_
        refine gf_Mod_13 C (dec D_Mod_loadImage rfl) ?_
        refine aw_bipush (v := 20) C (dec D_Mod_loadImage rfl) (by decide) ?_
        refine aw_iload_n (i := 1) C (dec D_Mod_loadImage rfl) rfl rfl ?_
        refine aw_imul C (dec D_Mod_loadImage rfl) ?_
        refine aw_iload_n (i := 2) C (dec D_Mod_loadImage rfl) rfl rfl ?_
        refine aw_iadd C (dec D_Mod_loadImage rfl) ?_
        refine al_M2 C (20 * wh + t) (dec D_Mod_loadImage rfl) (ix_eq (nI_im wh t) (by omega)) ?_
        refine aw_bipush (v := 8) C (dec D_Mod_loadImage rfl) (by decide) ?_
        rw [nI_mul8]
        refine aw_cv C ci_Mod_125 [_, _, _] (c_Mod_putBytes _ _ _ _ _ _ (8 * t) _ 8 (by omega)) (dec D_Mod_loadImage rfl) rcM rfl (fpW Fw) (Nat.le_of_ble_eq_true rfl) (by decide) ⟨by decide, by decide⟩ (fun v w2 hp => ?_) (fun _ _ h => by cases h.1)
        obtain ⟨hv, rfl⟩ := hp
        cases hv
        refine aw_iinc C (dec D_Mod_loadImage rfl) rfl (nI_inc t) (by decide) ?_
        refine aw_goto (tgt := 2) C (dec D_Mod_loadImage rfl) (by decide) ?_
        exact ih (t + 1) (by omega) (by omega)
  refine aw_iconst (v := 0) C (dec D_Mod_loadImage rfl) (by decide) ?_
  refine aw_istore_n (i := 2) C (dec D_Mod_loadImage rfl) rfl (by decide) ?_
  exact AW.impure (lp 21 0 (by omega) (by omega))
theorem c_Mod_isValid (l : Launch) (G : GG) (a : AD) (c : CC) (m : MM) (o : OO)  : CT l G y_Mod_isValid (.code y_Mod_isValid b_Mod_isValid 1 (some .boolean)) 1 0 0 Fno (wld G a c m o) [.ref (a 30 0)] (fun r w2 => r = .inl (some (.int (mValid m))) ∧ w2 = wld G a c m o) := by
  refine CT.of (by decide) (Nat.le_of_ble_eq_true rfl) rfl ?_
  intro E hl hG hF C r hw hex hnm
  subst hl; subst hG
  refine aw_aload_n (i := 0) C (dec D_Mod_isValid rfl) rfl rfl ?_
  refine aw_sipush (v := 158) C (dec D_Mod_isValid rfl) (by decide) ?_
  refine aw_iconst (v := 2) C (dec D_Mod_isValid rfl) (by decide) ?_
  refine aw_cv C ci_Mod_149 [_, _] (c_Mod_getBytes _ _ _ _ _ _ 158 2 (by omega)) (dec D_Mod_isValid rfl) rcM rfl fpP (Nat.le_of_ble_eq_true rfl) (by decide) ⟨by decide, by decide⟩ (fun v w2 hp => ?_) (fun _ _ h => by cases h.1)
  obtain ⟨hv, rfl⟩ := hp
  cases hv
  refine aw_aload_n (i := 0) C (dec D_Mod_isValid rfl) rfl rfl ?_
  refine aw_cv C ci_Mod_129 [] (c_Mod_sumOfImage _ _ _ _ _ _) (dec D_Mod_isValid rfl) rcM rfl fpP (Nat.le_of_ble_eq_true rfl) (by decide) ⟨by decide, by decide⟩ (fun v w2 hp => ?_) (fun _ _ h => by cases h.1)
  obtain ⟨hv, rfl⟩ := hp
  cases hv
  refine aw_icmp_ne (tgt := 19) C (dec D_Mod_isValid rfl) (by decide) (fun h12 => ?_) (fun h12 => ?_)
  · try simp only [mI_I, mL_I, mA_I, mJ_I, mI_L, mL_L, mA_L, mJ_L, mI_A, mL_A, mA_A, mJ_A, mI_J, mL_J, mA_J, mJ_J, cI_I, cL_I, cA_I, cJ_I, cR_I, cN_I, cI_L, cL_L, cA_L, cJ_L, cR_L, cN_L, cI_A, cL_A, cA_A, cJ_A, cR_A, cN_A, cI_J, cL_J, cA_J, cJ_J, cR_J, cN_J, cI_R, cL_R, cA_R, cJ_R, cR_R, cN_R, cI_N, cL_N, cA_N, cJ_N, cR_N, cN_N, ↓reduceIte, Nat.reduceEqDiff, upd_at, updL_at] at h12
    refine aw_iconst (v := 0) C (dec D_Mod_isValid rfl) (by decide) ?_
    refine aw_ret_i C r (dec D_Mod_isValid rfl) rfl (by decide) (by decide) ?_
    first | exact absurd trivial ‹¬True› | exact False.elim ‹False› | (refine ⟨?_, ?_⟩ <;> first | rfl | (simp [mI_I, mL_I, mA_I, mJ_I, mI_L, mL_L, mA_L, mJ_L, mI_A, mL_A, mA_A, mJ_A, mI_J, mL_J, mA_J, mJ_J, cI_I, cL_I, cA_I, cJ_I, cR_I, cN_I, cI_L, cL_L, cA_L, cJ_L, cR_L, cN_L, cI_A, cL_A, cA_A, cJ_A, cR_A, cN_A, cI_J, cL_J, cA_J, cJ_J, cR_J, cN_J, cI_R, cL_R, cA_R, cJ_R, cR_R, cN_R, cI_N, cL_N, cA_N, cJ_N, cR_N, cN_N, ↓reduceIte, Nat.reduceEqDiff, upd_at, updL_at, h12, mValid]; done) | (simp [mI_I, mL_I, mA_I, mJ_I, mI_L, mL_L, mA_L, mJ_L, mI_A, mL_A, mA_A, mJ_A, mI_J, mL_J, mA_J, mJ_J, cI_I, cL_I, cA_I, cJ_I, cR_I, cN_I, cI_L, cL_L, cA_L, cJ_L, cR_L, cN_L, cI_A, cL_A, cA_A, cJ_A, cR_A, cN_A, cI_J, cL_J, cA_J, cJ_J, cR_J, cN_J, cI_R, cL_R, cA_R, cJ_R, cR_R, cN_R, cI_N, cL_N, cA_N, cJ_N, cR_N, cN_N, ↓reduceIte, Nat.reduceEqDiff, upd_at, updL_at, h12, mValid]; rfl))
  · try simp only [mI_I, mL_I, mA_I, mJ_I, mI_L, mL_L, mA_L, mJ_L, mI_A, mL_A, mA_A, mJ_A, mI_J, mL_J, mA_J, mJ_J, cI_I, cL_I, cA_I, cJ_I, cR_I, cN_I, cI_L, cL_L, cA_L, cJ_L, cR_L, cN_L, cI_A, cL_A, cA_A, cJ_A, cR_A, cN_A, cI_J, cL_J, cA_J, cJ_J, cR_J, cN_J, cI_R, cL_R, cA_R, cJ_R, cR_R, cN_R, cI_N, cL_N, cA_N, cJ_N, cR_N, cN_N, ↓reduceIte, Nat.reduceEqDiff, upd_at, updL_at] at h12
    refine aw_iconst (v := 1) C (dec D_Mod_isValid rfl) (by decide) ?_
    refine aw_goto (tgt := 20) C (dec D_Mod_isValid rfl) (by decide) ?_
    refine aw_ret_i C r (dec D_Mod_isValid rfl) rfl (by decide) (by decide) ?_
    first | exact absurd trivial ‹¬True› | exact False.elim ‹False› | (refine ⟨?_, ?_⟩ <;> first | rfl | (simp [mI_I, mL_I, mA_I, mJ_I, mI_L, mL_L, mA_L, mJ_L, mI_A, mL_A, mA_A, mJ_A, mI_J, mL_J, mA_J, mJ_J, cI_I, cL_I, cA_I, cJ_I, cR_I, cN_I, cI_L, cL_L, cA_L, cJ_L, cR_L, cN_L, cI_A, cL_A, cA_A, cJ_A, cR_A, cN_A, cI_J, cL_J, cA_J, cJ_J, cR_J, cN_J, cI_R, cL_R, cA_R, cJ_R, cR_R, cN_R, cI_N, cL_N, cA_N, cJ_N, cR_N, cN_N, ↓reduceIte, Nat.reduceEqDiff, upd_at, updL_at, h12, mValid]; done) | (simp [mI_I, mL_I, mA_I, mJ_I, mI_L, mL_L, mA_L, mJ_L, mI_A, mL_A, mA_A, mJ_A, mI_J, mL_J, mA_J, mJ_J, cI_I, cL_I, cA_I, cJ_I, cR_I, cN_I, cI_L, cL_L, cA_L, cJ_L, cR_L, cN_L, cI_A, cL_A, cA_A, cJ_A, cR_A, cN_A, cI_J, cL_J, cA_J, cJ_J, cR_J, cN_J, cI_R, cL_R, cA_R, cJ_R, cR_R, cN_R, cI_N, cL_N, cA_N, cJ_N, cR_N, cN_N, ↓reduceIte, Nat.reduceEqDiff, upd_at, updL_at, h12, mValid]; rfl))
theorem c_Mod_save (l : Launch) (G : GG) (a : AD) (c : CC) (m : MM) (o : OO) (f : Nat) (hf : f < 8) (hs : ¬ mA m 8 f = 0 → ∃ p, p < 101 ∧ mA m 6 f = nI p) : CT l G y_Mod_save (.code y_Mod_save b_Mod_save 2 none) 4 0 0 (Fyes G) (wld G a c m o) [.ref (a 30 0), .int (nI f)] (fun r w2 => r = .inl none ∧ w2 = wld G a c (mSave m f) o) := by
  refine CT.of (by decide) (Nat.le_of_ble_eq_true rfl) rfl ?_
  intro E hl hG hF C r hw hex hnm
  subst hl; subst hG
  have Fw : Cw E := fun a h => by rw [hF]; exact h
  refine aw_aload_n (i := 0) C (dec D_Mod_save rfl) rfl rfl ?_
  refine gf_Mod_41 C (dec D_Mod_save rfl) ?_
  refine aw_iload_n (i := 1) C (dec D_Mod_save rfl) rfl rfl ?_
  refine al_M8 C f (dec D_Mod_save rfl) (ix_of hf) ?_
  refine aw_if_eq (tgt := 32) C (dec D_Mod_save rfl) (by decide) (fun h6 => ?_) (fun h6 => ?_)
  · try simp only [mI_I, mL_I, mA_I, mJ_I, mI_L, mL_L, mA_L, mJ_L, mI_A, mL_A, mA_A, mJ_A, mI_J, mL_J, mA_J, mJ_J, cI_I, cL_I, cA_I, cJ_I, cR_I, cN_I, cI_L, cL_L, cA_L, cJ_L, cR_L, cN_L, cI_A, cL_A, cA_A, cJ_A, cR_A, cN_A, cI_J, cL_J, cA_J, cJ_J, cR_J, cN_J, cI_R, cL_R, cA_R, cJ_R, cR_R, cN_R, cI_N, cL_N, cA_N, cJ_N, cR_N, cN_N, ↓reduceIte, Nat.reduceEqDiff, upd_at, updL_at] at h6
    refine aw_ret_v C r (dec D_Mod_save rfl) (by decide) (by decide) ?_
    exact ⟨rfl, by rw [mSave, if_pos h6]⟩
  · try simp only [mI_I, mL_I, mA_I, mJ_I, mI_L, mL_L, mA_L, mJ_L, mI_A, mL_A, mA_A, mJ_A, mI_J, mL_J, mA_J, mJ_J, cI_I, cL_I, cA_I, cJ_I, cR_I, cN_I, cI_L, cL_L, cA_L, cJ_L, cR_L, cN_L, cI_A, cL_A, cA_A, cJ_A, cR_A, cN_A, cI_J, cL_J, cA_J, cJ_J, cR_J, cN_J, cI_R, cL_R, cA_R, cJ_R, cR_R, cN_R, cI_N, cL_N, cA_N, cJ_N, cR_N, cN_N, ↓reduceIte, Nat.reduceEqDiff, upd_at, updL_at] at h6
    obtain ⟨p, hp1, e⟩ := hs h6
    refine aw_aload_n (i := 0) C (dec D_Mod_save rfl) rfl rfl ?_
    refine aw_aload_n (i := 0) C (dec D_Mod_save rfl) rfl rfl ?_
    refine gf_Mod_35 C (dec D_Mod_save rfl) ?_
    refine aw_iload_n (i := 1) C (dec D_Mod_save rfl) rfl rfl ?_
    refine al_M6 C f (dec D_Mod_save rfl) (ix_of hf) ?_
    refine aw_aload_n (i := 0) C (dec D_Mod_save rfl) rfl rfl ?_
    refine gf_Mod_38 C (dec D_Mod_save rfl) ?_
    refine aw_iload_n (i := 1) C (dec D_Mod_save rfl) rfl rfl ?_
    refine al_M7 C f (dec D_Mod_save rfl) (ix_of hf) ?_
    rw [e]
    refine aw_cv C ci_Mod_139 [_, _] (c_Mod_write _ _ _ _ _ _ p _ hp1) (dec D_Mod_save rfl) rcM rfl (fpW Fw) (Nat.le_of_ble_eq_true rfl) (by decide) ⟨by decide, by decide⟩ (fun v w2 hp => ?_) (fun _ _ h => by cases h.1)
    obtain ⟨hv, rfl⟩ := hp
    cases hv
    refine aw_aload_n (i := 0) C (dec D_Mod_save rfl) rfl rfl ?_
    refine gf_Mod_41 C (dec D_Mod_save rfl) ?_
    refine aw_iload_n (i := 1) C (dec D_Mod_save rfl) rfl rfl ?_
    refine aw_iconst (v := 0) C (dec D_Mod_save rfl) (by decide) ?_
    refine as_M8 C Fw f bz0 (dec D_Mod_save rfl) (ix_of hf) ?_
    refine aw_ret_v C r (dec D_Mod_save rfl) (by decide) (by decide) ?_
    refine ⟨rfl, ?_⟩
    rw [mSave, if_neg h6, e, nI_clamp (by omega)]; rfl
theorem c_Mod_load (l : Launch) (G : GG) (a : AD) (c : CC) (m : MM) (o : OO) (f p : Nat) (hf : f < 8) (hp1 : p < 101) (hs : ¬ mA m 8 f = 0 → ∃ p, p < 101 ∧ mA m 6 f = nI p) : CT l G y_Mod_load (.code y_Mod_load b_Mod_load 3 none) 5 0 0 (Fyes G) (wld G a c m o) [.ref (a 30 0), .int (nI f), .int (nI p)] (fun r w2 => r = .inl none ∧ w2 = wld G a c (mLoad m f p) o) := by
  refine CT.of (by decide) (Nat.le_of_ble_eq_true rfl) rfl ?_
  intro E hl hG hF C r hw hex hnm
  subst hl; subst hG
  have Fw : Cw E := fun a h => by rw [hF]; exact h
  refine aw_aload_n (i := 0) C (dec D_Mod_load rfl) rfl rfl ?_
  refine gf_Mod_35 C (dec D_Mod_load rfl) ?_
  refine aw_iload_n (i := 1) C (dec D_Mod_load rfl) rfl rfl ?_
  refine al_M6 C f (dec D_Mod_load rfl) (ix_of hf) ?_
  refine aw_iload_n (i := 2) C (dec D_Mod_load rfl) rfl rfl ?_
  refine aw_icmp_eq (tgt := 33) C (dec D_Mod_load rfl) (by decide) (fun h7 => ?_) (fun h7 => ?_)
  · try simp only [mI_I, mL_I, mA_I, mJ_I, mI_L, mL_L, mA_L, mJ_L, mI_A, mL_A, mA_A, mJ_A, mI_J, mL_J, mA_J, mJ_J, cI_I, cL_I, cA_I, cJ_I, cR_I, cN_I, cI_L, cL_L, cA_L, cJ_L, cR_L, cN_L, cI_A, cL_A, cA_A, cJ_A, cR_A, cN_A, cI_J, cL_J, cA_J, cJ_J, cR_J, cN_J, cI_R, cL_R, cA_R, cJ_R, cR_R, cN_R, cI_N, cL_N, cA_N, cJ_N, cR_N, cN_N, ↓reduceIte, Nat.reduceEqDiff, upd_at, updL_at] at h7
    refine aw_ret_v C r (dec D_Mod_load rfl) (by decide) (by decide) ?_
    exact ⟨rfl, by rw [mLoad, if_pos h7]⟩
  · try simp only [mI_I, mL_I, mA_I, mJ_I, mI_L, mL_L, mA_L, mJ_L, mI_A, mL_A, mA_A, mJ_A, mI_J, mL_J, mA_J, mJ_J, cI_I, cL_I, cA_I, cJ_I, cR_I, cN_I, cI_L, cL_L, cA_L, cJ_L, cR_L, cN_L, cI_A, cL_A, cA_A, cJ_A, cR_A, cN_A, cI_J, cL_J, cA_J, cJ_J, cR_J, cN_J, cI_R, cL_R, cA_R, cJ_R, cR_R, cN_R, cI_N, cL_N, cA_N, cJ_N, cR_N, cN_N, ↓reduceIte, Nat.reduceEqDiff, upd_at, updL_at] at h7
    refine aw_aload_n (i := 0) C (dec D_Mod_load rfl) rfl rfl ?_
    refine aw_iload_n (i := 1) C (dec D_Mod_load rfl) rfl rfl ?_
    refine aw_cv C ci_Mod_133 [_] (c_Mod_save _ _ _ _ _ _ _ hf hs) (dec D_Mod_load rfl) rcM rfl (fpW Fw) (Nat.le_of_ble_eq_true rfl) (by decide) ⟨by decide, by decide⟩ (fun v w2 hp => ?_) (fun _ _ h => by cases h.1)
    obtain ⟨hv, rfl⟩ := hp
    cases hv
    refine aw_aload_n (i := 0) C (dec D_Mod_load rfl) rfl rfl ?_
    refine gf_Mod_38 C (dec D_Mod_load rfl) ?_
    refine aw_iload_n (i := 1) C (dec D_Mod_load rfl) rfl rfl ?_
    refine aw_aload_n (i := 0) C (dec D_Mod_load rfl) rfl rfl ?_
    refine aw_iload_n (i := 2) C (dec D_Mod_load rfl) rfl rfl ?_
    refine aw_cv C ci_Mod_169 [_] (c_Mod_read _ _ _ _ _ _ _ hp1) (dec D_Mod_load rfl) rcM rfl (fpW Fw) (Nat.le_of_ble_eq_true rfl) (by decide) ⟨by decide, by decide⟩ (fun v w2 hp => ?_) (fun _ _ h => by cases h.1)
    obtain ⟨hv, rfl⟩ := hp
    cases hv
    refine as_M7 C Fw f (dec D_Mod_load rfl) (ix_of hf) ?_
    refine aw_aload_n (i := 0) C (dec D_Mod_load rfl) rfl rfl ?_
    refine gf_Mod_35 C (dec D_Mod_load rfl) ?_
    refine aw_iload_n (i := 1) C (dec D_Mod_load rfl) rfl rfl ?_
    refine aw_iload_n (i := 2) C (dec D_Mod_load rfl) rfl rfl ?_
    refine as_M6 C Fw f (dec D_Mod_load rfl) (ix_of hf) ?_
    refine aw_ret_v C r (dec D_Mod_load rfl) (by decide) (by decide) ?_
    exact ⟨rfl, by rw [mLoad, if_neg h7]; rfl⟩
