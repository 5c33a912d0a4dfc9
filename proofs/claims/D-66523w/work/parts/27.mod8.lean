/-! the model: free, sync, byteAt, append; printed by tools/m27.py -/
theorem nI_ch8 {t i : Nat} (h : i < 2 ^ 31) : (64 : Int32) * nI t + nI i / 8 = nI (64 * t + i / 8) := by
  rw [show (8 : Int32) = nI 8 from rfl, pk_div h (by omega) (by omega), nI_ch]
theorem irem8 {i : Nat} (h : i < 2 ^ 31) : nI i - nI i / 8 * 8 = nI (i % 8) := nI_rem (n := i) (d := 8) h (by omega) (by omega)
theorem i_ge0 {x : Int32} (h : 0 ≤ x) : ¬ x < 0 := by rw [Int32.lt_iff_toInt_lt]; rw [Int32.le_iff_toInt_le] at h; omega
theorem c_Mod_free (l : Launch) (G : GG) (a : AD) (c : CC) (m : MM) (o : OO) (L : Nat → Nat) (hL : MLn m L) : CT l G y_Mod_free (.code y_Mod_free b_Mod_free 3 (some .int)) 3 0 0 (Fyes G) (wld G a c m o) [.ref (a 30 0)] (fun r w2 => r = .inl (some (.int (mFreeR m L))) ∧ w2 = wld G a c (mFind m) o) := by
  refine CT.of (by decide) (Nat.le_of_ble_eq_true rfl) rfl ?_
  intro E hl hG hF C r hw hex hnm
  subst hl; subst hG
  have Fw : Cw E := fun a h => by rw [hF]; exact h
  have lp : ¬ mReady m = 0 → ∀ (n t : Nat) (y : Int32), 101 - t < n → t ≤ 101 → y = mFrN (smI m 0 0) L t → AW E false 0 0 (wld (eG E) a c (smI m 0 0) o) 20 [(0, .ref (a 30 0)), (1, .int y), (2, .int (nI t))] [] := by
    intro hrd n
    induction n with
    | zero => intro t y h1 h2 hx; omega
    | succ n ih =>
      intro t y h1t h2t hx
      refine aw_iload_n (i := 2) C (dec D_Mod_free rfl) rfl rfl ?_
      refine aw_bipush (v := 101) C (dec D_Mod_free rfl) (by decide) ?_
      refine aw_icmp_ge (tgt := 55) C (dec D_Mod_free rfl) (by decide) (fun hb => ?_) (fun hb => ?_)
      · try simp only [mI_I, mL_I, mA_I, mJ_I, mI_L, mL_L, mA_L, mJ_L, mI_A, mL_A, mA_A, mJ_A, mI_J, mL_J, mA_J, mJ_J, cI_I, cL_I, cA_I, cJ_I, cR_I, cN_I, cI_L, cL_L, cA_L, cJ_L, cR_L, cN_L, cI_A, cL_A, cA_A, cJ_A, cR_A, cN_A, cI_J, cL_J, cA_J, cJ_J, cR_J, cN_J, cI_R, cL_R, cA_R, cJ_R, cR_R, cN_R, cI_N, cL_N, cA_N, cJ_N, cR_N, cN_N, ↓reduceIte, Nat.reduceEqDiff, upd_at, updL_at] at hb
        have e9 : t = 101 := by have := ix_ge (N := 101) hb; omega
        subst e9
        refine aw_iload_n (i := 1) C (dec D_Mod_free rfl) rfl rfl ?_
        refine aw_ret_i C r (dec D_Mod_free rfl) rfl (by decide) (by decide) ?_
        exact ⟨by rw [mFreeR, if_neg hrd, hx], by rw [mFind, if_neg hrd]⟩
      · try simp only [mI_I, mL_I, mA_I, mJ_I, mI_L, mL_L, mA_L, mJ_L, mI_A, mL_A, mA_A, mJ_A, mI_J, mL_J, mA_J, mJ_J, cI_I, cL_I, cA_I, cJ_I, cR_I, cN_I, cI_L, cL_L, cA_L, cJ_L, cR_L, cN_L, cI_A, cL_A, cA_A, cJ_A, cR_A, cN_A, cI_J, cL_J, cA_J, cJ_J, cR_J, cN_J, cI_R, cL_R, cA_R, cJ_R, cR_R, cN_R, cI_N, cL_N, cA_N, cJ_N, cR_N, cN_N, ↓reduceIte, Nat.reduceEqDiff, upd_at, updL_at] at hb
        have htt : t < 101 := ix_lt (N := 101) hb
        refine aw_aload_n (i := 0) C (dec D_Mod_free rfl) rfl rfl ?_
        refine gf_Mod_71 C (dec D_Mod_free rfl) ?_
        refine aw_if_ne (tgt := 55) C (dec D_Mod_free rfl) (by decide) (fun h_ => absurd (show (0 : Int32) = (0 : Int32) by decide) h_) (fun _ => ?_)
        refine aw_aload_n (i := 0) C (dec D_Mod_free rfl) rfl rfl ?_
        refine aw_iload_n (i := 2) C (dec D_Mod_free rfl) rfl rfl ?_
        refine aw_cv C ci_Mod_173 [_] (c_Mod_isFree _ _ _ _ _ _ t L htt (hL.of rfl)) (dec D_Mod_free rfl) rcM rfl fpP (Nat.le_of_ble_eq_true rfl) (by decide) ⟨by decide, by decide⟩ (fun v w2 hp => ?_) (fun _ _ h => by cases h.1)
        obtain ⟨hv, rfl⟩ := hp
        cases hv
        refine aw_if_eq (tgt := 47) C (dec D_Mod_free rfl) (by decide) (fun h38 => ?_) (fun h38 => ?_)
        · try simp only [mI_I, mL_I, mA_I, mJ_I, mI_L, mL_L, mA_L, mJ_L, mI_A, mL_A, mA_A, mJ_A, mI_J, mL_J, mA_J, mJ_J, cI_I, cL_I, cA_I, cJ_I, cR_I, cN_I, cI_L, cL_L, cA_L, cJ_L, cR_L, cN_L, cI_A, cL_A, cA_A, cJ_A, cR_A, cN_A, cI_J, cL_J, cA_J, cJ_J, cR_J, cN_J, cI_R, cL_R, cA_R, cJ_R, cR_R, cN_R, cI_N, cL_N, cA_N, cJ_N, cR_N, cN_N, ↓reduceIte, Nat.reduceEqDiff, upd_at, updL_at] at h38
          refine aw_iload_n (i := 1) C (dec D_Mod_free rfl) rfl rfl ?_
          refine aw_istore_n (i := 1) C (dec D_Mod_free rfl) rfl (by decide) ?_
          refine aw_iinc C (dec D_Mod_free rfl) rfl (nI_inc t) (by decide) ?_
          refine aw_goto (tgt := 20) C (dec D_Mod_free rfl) (by decide) ?_
          exact ih (t + 1) _ (by omega) (by omega) (by rw [mFrN, if_neg (by rw [bI_0.mp h38]; decide)]; exact hx)
        · try simp only [mI_I, mL_I, mA_I, mJ_I, mI_L, mL_L, mA_L, mJ_L, mI_A, mL_A, mA_A, mJ_A, mI_J, mL_J, mA_J, mJ_J, cI_I, cL_I, cA_I, cJ_I, cR_I, cN_I, cI_L, cL_L, cA_L, cJ_L, cR_L, cN_L, cI_A, cL_A, cA_A, cJ_A, cR_A, cN_A, cI_J, cL_J, cA_J, cJ_J, cR_J, cN_J, cI_R, cL_R, cA_R, cJ_R, cR_R, cN_R, cI_N, cL_N, cA_N, cJ_N, cR_N, cN_N, ↓reduceIte, Nat.reduceEqDiff, upd_at, updL_at] at h38
          refine aw_iload_n (i := 1) C (dec D_Mod_free rfl) rfl rfl ?_
          refine aw_iconst (v := 1) C (dec D_Mod_free rfl) (by decide) ?_
          refine aw_iadd C (dec D_Mod_free rfl) ?_
          refine aw_goto (tgt := 48) C (dec D_Mod_free rfl) (by decide) ?_
          refine aw_istore_n (i := 1) C (dec D_Mod_free rfl) rfl (by decide) ?_
          refine aw_iinc C (dec D_Mod_free rfl) rfl (nI_inc t) (by decide) ?_
          refine aw_goto (tgt := 20) C (dec D_Mod_free rfl) (by decide) ?_
          exact ih (t + 1) _ (by omega) (by omega) (by rw [mFrN, if_pos (by have z := mt bI_0.mpr h38; simpa using z), hx])
  refine aw_aload_n (i := 0) C (dec D_Mod_free rfl) rfl rfl ?_
  refine aw_aload_n (i := 0) C (dec D_Mod_free rfl) rfl rfl ?_
  refine aw_cv C ci_Mod_160 [] (c_Mod_isReady _ _ _ _ _ _) (dec D_Mod_free rfl) rcM rfl fpP (Nat.le_of_ble_eq_true rfl) (by decide) ⟨by decide, by decide⟩ (fun v w2 hp => ?_) (fun _ _ h => by cases h.1)
  obtain ⟨hv, rfl⟩ := hp
  cases hv
  refine aw_if_eq (tgt := 12) C (dec D_Mod_free rfl) (by decide) (fun h5 => ?_) (fun h5 => ?_)
  · try simp only [mI_I, mL_I, mA_I, mJ_I, mI_L, mL_L, mA_L, mJ_L, mI_A, mL_A, mA_A, mJ_A, mI_J, mL_J, mA_J, mJ_J, cI_I, cL_I, cA_I, cJ_I, cR_I, cN_I, cI_L, cL_L, cA_L, cJ_L, cR_L, cN_L, cI_A, cL_A, cA_A, cJ_A, cR_A, cN_A, cI_J, cL_J, cA_J, cJ_J, cR_J, cN_J, cI_R, cL_R, cA_R, cJ_R, cR_R, cN_R, cI_N, cL_N, cA_N, cJ_N, cR_N, cN_N, ↓reduceIte, Nat.reduceEqDiff, upd_at, updL_at] at h5
    refine aw_iconst (v := 1) C (dec D_Mod_free rfl) (by decide) ?_
    refine pf_Mod_71 C Fw (dec D_Mod_free rfl) ?_
    refine aw_iconst (v := 0) C (dec D_Mod_free rfl) (by decide) ?_
    refine aw_istore_n (i := 1) C (dec D_Mod_free rfl) rfl (by decide) ?_
    refine aw_iconst (v := 0) C (dec D_Mod_free rfl) (by decide) ?_
    refine aw_istore_n (i := 2) C (dec D_Mod_free rfl) rfl (by decide) ?_
    refine aw_iload_n (i := 2) C (dec D_Mod_free rfl) rfl rfl ?_
    refine aw_bipush (v := 101) C (dec D_Mod_free rfl) (by decide) ?_
    refine aw_icmp_ge (tgt := 55) C (dec D_Mod_free rfl) (by decide) (fun h_ => absurd h_ (show ¬ (101 : Int32) ≤ (0 : Int32) by decide)) (fun _ => ?_)
    refine aw_aload_n (i := 0) C (dec D_Mod_free rfl) rfl rfl ?_
    refine gf_Mod_71 C (dec D_Mod_free rfl) ?_
    refine aw_if_ne (tgt := 55) C (dec D_Mod_free rfl) (by decide) (fun _ => ?_) (fun h_ => absurd h_ (show ¬ (1 : Int32) = (0 : Int32) by decide))
    refine aw_iload_n (i := 1) C (dec D_Mod_free rfl) rfl rfl ?_
    refine aw_ret_i C r (dec D_Mod_free rfl) rfl (by decide) (by decide) ?_
    exact ⟨by rw [mFreeR, if_pos h5], by rw [mFind, if_pos h5]⟩
  · try simp only [mI_I, mL_I, mA_I, mJ_I, mI_L, mL_L, mA_L, mJ_L, mI_A, mL_A, mA_A, mJ_A, mI_J, mL_J, mA_J, mJ_J, cI_I, cL_I, cA_I, cJ_I, cR_I, cN_I, cI_L, cL_L, cA_L, cJ_L, cR_L, cN_L, cI_A, cL_A, cA_A, cJ_A, cR_A, cN_A, cI_J, cL_J, cA_J, cJ_J, cR_J, cN_J, cI_R, cL_R, cA_R, cJ_R, cR_R, cN_R, cI_N, cL_N, cA_N, cJ_N, cR_N, cN_N, ↓reduceIte, Nat.reduceEqDiff, upd_at, updL_at] at h5
    refine aw_iconst (v := 0) C (dec D_Mod_free rfl) (by decide) ?_
    refine aw_goto (tgt := 13) C (dec D_Mod_free rfl) (by decide) ?_
    refine pf_Mod_71 C Fw (dec D_Mod_free rfl) ?_
    refine aw_iconst (v := 0) C (dec D_Mod_free rfl) (by decide) ?_
    refine aw_istore_n (i := 1) C (dec D_Mod_free rfl) rfl (by decide) ?_
    refine aw_iconst (v := 0) C (dec D_Mod_free rfl) (by decide) ?_
    refine aw_istore_n (i := 2) C (dec D_Mod_free rfl) rfl (by decide) ?_
    exact lp h5 102 0 _ (by omega) (by omega) rfl
theorem c_Mod_sync (l : Launch) (G : GG) (a : AD) (c : CC) (m : MM) (o : OO) (L : Nat → Nat) (ch : Nat → Nat → Nat) (cu tn : Nat) (hL : MLn m L) (hC : MCh m L ch) (hW : MWin m) (hcu : mI m 6 = nI cu ∧ cu < 2) (htn : mI m 7 = nI tn ∧ tn < 256) : CT l G y_Mod_sync (.code y_Mod_sync b_Mod_sync 3 (some .int)) 6 0 0 (Fyes G) (wld G a c m o) [.ref (a 30 0)] (fun r w2 => r = .inl (some (.int (mSyncR m L ch cu tn))) ∧ w2 = wld G a c (mSync m L ch cu tn) o) := by
  refine CT.of (by decide) (Nat.le_of_ble_eq_true rfl) rfl ?_
  intro E hl hG hF C r hw hex hnm
  subst hl; subst hG
  have Fw : Cw E := fun a h => by rw [hF]; exact h
  refine aw_aload_n (i := 0) C (dec D_Mod_sync rfl) rfl rfl ?_
  refine aw_aload_n (i := 0) C (dec D_Mod_sync rfl) rfl rfl ?_
  refine aw_cv C ci_Mod_160 [] (c_Mod_isReady _ _ _ _ _ _) (dec D_Mod_sync rfl) rcM rfl fpP (Nat.le_of_ble_eq_true rfl) (by decide) ⟨by decide, by decide⟩ (fun v w2 hp => ?_) (fun _ _ h => by cases h.1)
  obtain ⟨hv, rfl⟩ := hp
  cases hv
  refine aw_if_eq (tgt := 12) C (dec D_Mod_sync rfl) (by decide) (fun h5 => ?_) (fun h5 => ?_)
  · try simp only [mI_I, mL_I, mA_I, mJ_I, mI_L, mL_L, mA_L, mJ_L, mI_A, mL_A, mA_A, mJ_A, mI_J, mL_J, mA_J, mJ_J, cI_I, cL_I, cA_I, cJ_I, cR_I, cN_I, cI_L, cL_L, cA_L, cJ_L, cR_L, cN_L, cI_A, cL_A, cA_A, cJ_A, cR_A, cN_A, cI_J, cL_J, cA_J, cJ_J, cR_J, cN_J, cI_R, cL_R, cA_R, cJ_R, cR_R, cN_R, cI_N, cL_N, cA_N, cJ_N, cR_N, cN_N, ↓reduceIte, Nat.reduceEqDiff, upd_at, updL_at] at h5
    refine aw_iconst (v := 1) C (dec D_Mod_sync rfl) (by decide) ?_
    refine pf_Mod_71 C Fw (dec D_Mod_sync rfl) ?_
    refine aw_aload_n (i := 0) C (dec D_Mod_sync rfl) rfl rfl ?_
    refine gf_Mod_71 C (dec D_Mod_sync rfl) ?_
    refine aw_if_le (tgt := 25) C (dec D_Mod_sync rfl) (by decide) (fun h_ => absurd h_ (show ¬ (1 : Int32) ≤ (0 : Int32) by decide)) (fun _ => ?_)
    refine aw_iconst (v := 0) C (dec D_Mod_sync rfl) (by decide) ?_
    refine aw_ret_i C r (dec D_Mod_sync rfl) rfl (by decide) (by decide) ?_
    refine ⟨?_, ?_⟩ <;> first | with_reducible rfl | (simp [mI_I, mL_I, mA_I, mJ_I, mI_L, mL_L, mA_L, mJ_L, mI_A, mL_A, mA_A, mJ_A, mI_J, mL_J, mA_J, mJ_J, cI_I, cL_I, cA_I, cJ_I, cR_I, cN_I, cI_L, cL_L, cA_L, cJ_L, cR_L, cN_L, cI_A, cL_A, cA_A, cJ_A, cR_A, cN_A, cI_J, cL_J, cA_J, cJ_J, cR_J, cN_J, cI_R, cL_R, cA_R, cJ_R, cR_R, cN_R, cI_N, cL_N, cA_N, cJ_N, cR_N, cN_N, ↓reduceIte, Nat.reduceEqDiff, upd_at, updL_at, h5, mSyncR, mSync, mOnC]; done) | (simp [mI_I, mL_I, mA_I, mJ_I, mI_L, mL_L, mA_L, mJ_L, mI_A, mL_A, mA_A, mJ_A, mI_J, mL_J, mA_J, mJ_J, cI_I, cL_I, cA_I, cJ_I, cR_I, cN_I, cI_L, cL_L, cA_L, cJ_L, cR_L, cN_L, cI_A, cL_A, cA_A, cJ_A, cR_A, cN_A, cI_J, cL_J, cA_J, cJ_J, cR_J, cN_J, cI_R, cL_R, cA_R, cJ_R, cR_R, cN_R, cI_N, cL_N, cA_N, cJ_N, cR_N, cN_N, ↓reduceIte, Nat.reduceEqDiff, upd_at, updL_at, h5, mSyncR, mSync, mOnC]; rfl)
  · try simp only [mI_I, mL_I, mA_I, mJ_I, mI_L, mL_L, mA_L, mJ_L, mI_A, mL_A, mA_A, mJ_A, mI_J, mL_J, mA_J, mJ_J, cI_I, cL_I, cA_I, cJ_I, cR_I, cN_I, cI_L, cL_L, cA_L, cJ_L, cR_L, cN_L, cI_A, cL_A, cA_A, cJ_A, cR_A, cN_A, cI_J, cL_J, cA_J, cJ_J, cR_J, cN_J, cI_R, cL_R, cA_R, cJ_R, cR_R, cN_R, cI_N, cL_N, cA_N, cJ_N, cR_N, cN_N, ↓reduceIte, Nat.reduceEqDiff, upd_at, updL_at] at h5
    refine aw_iconst (v := 0) C (dec D_Mod_sync rfl) (by decide) ?_
    refine aw_goto (tgt := 13) C (dec D_Mod_sync rfl) (by decide) ?_
    refine pf_Mod_71 C Fw (dec D_Mod_sync rfl) ?_
    refine aw_aload_n (i := 0) C (dec D_Mod_sync rfl) rfl rfl ?_
    refine gf_Mod_71 C (dec D_Mod_sync rfl) ?_
    refine aw_if_le (tgt := 25) C (dec D_Mod_sync rfl) (by decide) (fun _ => ?_) (fun h_ => absurd (show (0 : Int32) ≤ (0 : Int32) by decide) h_)
    refine aw_aload_n (i := 0) C (dec D_Mod_sync rfl) rfl rfl ?_
    refine gf_Mod_80 C (dec D_Mod_sync rfl) ?_
    refine aw_lstore_n (i := 1) C (dec D_Mod_sync rfl) rfl (by decide) ?_
    refine aw_aload_n (i := 0) C (dec D_Mod_sync rfl) rfl rfl ?_
    refine aw_cv C ci_Mod_116 [] (c_Mod_saveAll _ _ _ _ _ _ L ch cu tn (hL.of rfl) (hC.of rfl) hW hcu htn) (dec D_Mod_sync rfl) rcM rfl (fpW Fw) (Nat.le_of_ble_eq_true rfl) (by decide) ⟨by decide, by decide⟩ (fun v w2 hp => ?_) (fun _ _ h => by cases h.1)
    obtain ⟨hv, rfl⟩ := hp
    cases hv
    refine aw_aload_n (i := 0) C (dec D_Mod_sync rfl) rfl rfl ?_
    refine aw_aload_n (i := 0) C (dec D_Mod_sync rfl) rfl rfl ?_
    refine gf_Mod_21 C (dec D_Mod_sync rfl) ?_
    refine aw_if_eq (tgt := 46) C (dec D_Mod_sync rfl) (by decide) (fun h39 => ?_) (fun h39 => ?_)
    · try simp only [mI_I, mL_I, mA_I, mJ_I, mI_L, mL_L, mA_L, mJ_L, mI_A, mL_A, mA_A, mJ_A, mI_J, mL_J, mA_J, mJ_J, cI_I, cL_I, cA_I, cJ_I, cR_I, cN_I, cI_L, cL_L, cA_L, cJ_L, cR_L, cN_L, cI_A, cL_A, cA_A, cJ_A, cR_A, cN_A, cI_J, cL_J, cA_J, cJ_J, cR_J, cN_J, cI_R, cL_R, cA_R, cJ_R, cR_R, cN_R, cI_N, cL_N, cA_N, cJ_N, cR_N, cN_N, ↓reduceIte, Nat.reduceEqDiff, upd_at, updL_at] at h39
      refine aw_iconst (v := 1) C (dec D_Mod_sync rfl) (by decide) ?_
      refine pf_Mod_71 C Fw (dec D_Mod_sync rfl) ?_
      refine aw_aload_n (i := 0) C (dec D_Mod_sync rfl) rfl rfl ?_
      refine gf_Mod_71 C (dec D_Mod_sync rfl) ?_
      refine aw_if_le (tgt := 61) C (dec D_Mod_sync rfl) (by decide) (fun h_ => absurd h_ (show ¬ (1 : Int32) ≤ (0 : Int32) by decide)) (fun _ => ?_)
      refine aw_iconst (v := 0) C (dec D_Mod_sync rfl) (by decide) ?_
      refine aw_goto (tgt := 68) C (dec D_Mod_sync rfl) (by decide) ?_
      refine aw_ret_i C r (dec D_Mod_sync rfl) rfl (by decide) (by decide) ?_
      refine ⟨?_, ?_⟩ <;> first | with_reducible rfl | (simp [mI_I, mL_I, mA_I, mJ_I, mI_L, mL_L, mA_L, mJ_L, mI_A, mL_A, mA_A, mJ_A, mI_J, mL_J, mA_J, mJ_J, cI_I, cL_I, cA_I, cJ_I, cR_I, cN_I, cI_L, cL_L, cA_L, cJ_L, cR_L, cN_L, cI_A, cL_A, cA_A, cJ_A, cR_A, cN_A, cI_J, cL_J, cA_J, cJ_J, cR_J, cN_J, cI_R, cL_R, cA_R, cJ_R, cR_R, cN_R, cI_N, cL_N, cA_N, cJ_N, cR_N, cN_N, ↓reduceIte, Nat.reduceEqDiff, upd_at, updL_at, h5, h39, mSyncR, mSync, mOnC]; done) | (simp [mI_I, mL_I, mA_I, mJ_I, mI_L, mL_L, mA_L, mJ_L, mI_A, mL_A, mA_A, mJ_A, mI_J, mL_J, mA_J, mJ_J, cI_I, cL_I, cA_I, cJ_I, cR_I, cN_I, cI_L, cL_L, cA_L, cJ_L, cR_L, cN_L, cI_A, cL_A, cA_A, cJ_A, cR_A, cN_A, cI_J, cL_J, cA_J, cJ_J, cR_J, cN_J, cI_R, cL_R, cA_R, cJ_R, cR_R, cN_R, cI_N, cL_N, cA_N, cJ_N, cR_N, cN_N, ↓reduceIte, Nat.reduceEqDiff, upd_at, updL_at, h5, h39, mSyncR, mSync, mOnC]; rfl)
    · try simp only [mI_I, mL_I, mA_I, mJ_I, mI_L, mL_L, mA_L, mJ_L, mI_A, mL_A, mA_A, mJ_A, mI_J, mL_J, mA_J, mJ_J, cI_I, cL_I, cA_I, cJ_I, cR_I, cN_I, cI_L, cL_L, cA_L, cJ_L, cR_L, cN_L, cI_A, cL_A, cA_A, cJ_A, cR_A, cN_A, cI_J, cL_J, cA_J, cJ_J, cR_J, cN_J, cI_R, cL_R, cA_R, cJ_R, cR_R, cN_R, cI_N, cL_N, cA_N, cJ_N, cR_N, cN_N, ↓reduceIte, Nat.reduceEqDiff, upd_at, updL_at] at h39
      refine aw_iconst (v := 0) C (dec D_Mod_sync rfl) (by decide) ?_
      refine aw_goto (tgt := 47) C (dec D_Mod_sync rfl) (by decide) ?_
      refine pf_Mod_71 C Fw (dec D_Mod_sync rfl) ?_
      refine aw_aload_n (i := 0) C (dec D_Mod_sync rfl) rfl rfl ?_
      refine gf_Mod_71 C (dec D_Mod_sync rfl) ?_
      refine aw_if_le (tgt := 61) C (dec D_Mod_sync rfl) (by decide) (fun _ => ?_) (fun h_ => absurd (show (0 : Int32) ≤ (0 : Int32) by decide) h_)
      refine aw_aload_n (i := 0) C (dec D_Mod_sync rfl) rfl rfl ?_
      refine gf_Mod_80 C (dec D_Mod_sync rfl) ?_
      refine aw_lload_n (i := 1) C (dec D_Mod_sync rfl) rfl rfl ?_
      refine aw_lsub C (dec D_Mod_sync rfl) ?_
      refine aw_l2i C (dec D_Mod_sync rfl) ?_
      refine aw_ret_i C r (dec D_Mod_sync rfl) rfl (by decide) (by decide) ?_
      refine ⟨?_, ?_⟩ <;> first | with_reducible rfl | (simp [mI_I, mL_I, mA_I, mJ_I, mI_L, mL_L, mA_L, mJ_L, mI_A, mL_A, mA_A, mJ_A, mI_J, mL_J, mA_J, mJ_J, cI_I, cL_I, cA_I, cJ_I, cR_I, cN_I, cI_L, cL_L, cA_L, cJ_L, cR_L, cN_L, cI_A, cL_A, cA_A, cJ_A, cR_A, cN_A, cI_J, cL_J, cA_J, cJ_J, cR_J, cN_J, cI_R, cL_R, cA_R, cJ_R, cR_R, cN_R, cI_N, cL_N, cA_N, cJ_N, cR_N, cN_N, ↓reduceIte, Nat.reduceEqDiff, upd_at, updL_at, h5, h39, mSyncR, mSync, mOnC]; done) | (simp [mI_I, mL_I, mA_I, mJ_I, mI_L, mL_L, mA_L, mJ_L, mI_A, mL_A, mA_A, mJ_A, mI_J, mL_J, mA_J, mJ_J, cI_I, cL_I, cA_I, cJ_I, cR_I, cN_I, cI_L, cL_L, cA_L, cJ_L, cR_L, cN_L, cI_A, cL_A, cA_A, cJ_A, cR_A, cN_A, cI_J, cL_J, cA_J, cJ_J, cR_J, cN_J, cI_R, cL_R, cA_R, cJ_R, cR_R, cN_R, cI_N, cL_N, cA_N, cJ_N, cR_N, cN_N, ↓reduceIte, Nat.reduceEqDiff, upd_at, updL_at, h5, h39, mSyncR, mSync, mOnC]; rfl)
theorem c_Mod_byteAt (l : Launch) (G : GG) (a : AD) (c : CC) (m : MM) (o : OO) (x y : Int32) (L : Nat → Nat) (ch : Nat → Nat → Nat) (hL : MLn m L) (hC : MCh m L ch) (hW : MWin m) : CT l G y_Mod_byteAt (.code y_Mod_byteAt b_Mod_byteAt 3 (some .int)) 6 0 0 (Fyes G) (wld G a c m o) [.ref (a 30 0), .int x, .int y] (fun r w2 => r = .inl (some (.int (mByteR m ch x y))) ∧ w2 = wld G a c (mByteAt m ch x y) o) := by
  refine CT.of (by decide) (Nat.le_of_ble_eq_true rfl) rfl ?_
  intro E hl hG hF C r hw hex hnm
  subst hl; subst hG
  have Fw : Cw E := fun a h => by rw [hF]; exact h
  refine aw_aload_n (i := 0) C (dec D_Mod_byteAt rfl) rfl rfl ?_
  refine aw_aload_n (i := 0) C (dec D_Mod_byteAt rfl) rfl rfl ?_
  refine aw_cv C ci_Mod_160 [] (c_Mod_isReady _ _ _ _ _ _) (dec D_Mod_byteAt rfl) rcM rfl fpP (Nat.le_of_ble_eq_true rfl) (by decide) ⟨by decide, by decide⟩ (fun v w2 hp => ?_) (fun _ _ h => by cases h.1)
  obtain ⟨hv, rfl⟩ := hp
  cases hv
  refine aw_if_ne (tgt := 12) C (dec D_Mod_byteAt rfl) (by decide) (fun h5 => ?_) (fun h5 => ?_)
  · try simp only [mI_I, mL_I, mA_I, mJ_I, mI_L, mL_L, mA_L, mJ_L, mI_A, mL_A, mA_A, mJ_A, mI_J, mL_J, mA_J, mJ_J, cI_I, cL_I, cA_I, cJ_I, cR_I, cN_I, cI_L, cL_L, cA_L, cJ_L, cR_L, cN_L, cI_A, cL_A, cA_A, cJ_A, cR_A, cN_A, cI_J, cL_J, cA_J, cJ_J, cR_J, cN_J, cI_R, cL_R, cA_R, cJ_R, cR_R, cN_R, cI_N, cL_N, cA_N, cJ_N, cR_N, cN_N, ↓reduceIte, Nat.reduceEqDiff, upd_at, updL_at] at h5
    refine aw_aload_n (i := 0) C (dec D_Mod_byteAt rfl) rfl rfl ?_
    refine aw_iload_n (i := 1) C (dec D_Mod_byteAt rfl) rfl rfl ?_
    refine aw_cv C ci_Mod_166 [_] (c_Mod_isFile _ _ _ _ _ _ _) (dec D_Mod_byteAt rfl) rcM rfl fpP (Nat.le_of_ble_eq_true rfl) (by decide) ⟨by decide, by decide⟩ (fun v w2 hp => ?_) (fun _ _ h => by cases h.1)
    obtain ⟨hv, rfl⟩ := hp
    cases hv
    refine aw_if_ne (tgt := 24) C (dec D_Mod_byteAt rfl) (by decide) (fun h17 => ?_) (fun h17 => ?_)
    · try simp only [mI_I, mL_I, mA_I, mJ_I, mI_L, mL_L, mA_L, mJ_L, mI_A, mL_A, mA_A, mJ_A, mI_J, mL_J, mA_J, mJ_J, cI_I, cL_I, cA_I, cJ_I, cR_I, cN_I, cI_L, cL_L, cA_L, cJ_L, cR_L, cN_L, cI_A, cL_A, cA_A, cJ_A, cR_A, cN_A, cI_J, cL_J, cA_J, cJ_J, cR_J, cN_J, cI_R, cL_R, cA_R, cJ_R, cR_R, cN_R, cI_N, cL_N, cA_N, cJ_N, cR_N, cN_N, ↓reduceIte, Nat.reduceEqDiff, upd_at, updL_at] at h17
      obtain ⟨t, ht, rfl, hnm⟩ := mIsFile_rng h17
      have ec := nI_clamp (n := t) (by omega)
      refine aw_iload_n (i := 2) C (dec D_Mod_byteAt rfl) rfl rfl ?_
      refine aw_if_lt (tgt := 38) C (dec D_Mod_byteAt rfl) (by decide) (fun h25 => ?_) (fun h25 => ?_)
      · try simp only [mI_I, mL_I, mA_I, mJ_I, mI_L, mL_L, mA_L, mJ_L, mI_A, mL_A, mA_A, mJ_A, mI_J, mL_J, mA_J, mJ_J, cI_I, cL_I, cA_I, cJ_I, cR_I, cN_I, cI_L, cL_L, cA_L, cJ_L, cR_L, cN_L, cI_A, cL_A, cA_A, cJ_A, cR_A, cN_A, cI_J, cL_J, cA_J, cJ_J, cR_J, cN_J, cI_R, cL_R, cA_R, cJ_R, cR_R, cN_R, cI_N, cL_N, cA_N, cJ_N, cR_N, cN_N, ↓reduceIte, Nat.reduceEqDiff, upd_at, updL_at] at h25
        refine aw_iconst (v := 3) C (dec D_Mod_byteAt rfl) (by decide) ?_
        refine aw_goto (tgt := 43) C (dec D_Mod_byteAt rfl) (by decide) ?_
        refine pf_Mod_71 C Fw (dec D_Mod_byteAt rfl) ?_
        refine aw_aload_n (i := 0) C (dec D_Mod_byteAt rfl) rfl rfl ?_
        refine gf_Mod_71 C (dec D_Mod_byteAt rfl) ?_
        refine aw_if_le (tgt := 55) C (dec D_Mod_byteAt rfl) (by decide) (fun h_ => absurd h_ (show ¬ (3 : Int32) ≤ (0 : Int32) by decide)) (fun _ => ?_)
        refine aw_iconst (v := 0) C (dec D_Mod_byteAt rfl) (by decide) ?_
        refine aw_ret_i C r (dec D_Mod_byteAt rfl) rfl (by decide) (by decide) ?_
        refine ⟨?_, ?_⟩ <;> first | with_reducible rfl | (simp [mI_I, mL_I, mA_I, mJ_I, mI_L, mL_L, mA_L, mJ_L, mI_A, mL_A, mA_A, mJ_A, mI_J, mL_J, mA_J, mJ_J, cI_I, cL_I, cA_I, cJ_I, cR_I, cN_I, cI_L, cL_L, cA_L, cJ_L, cR_L, cN_L, cI_A, cL_A, cA_A, cJ_A, cR_A, cN_A, cI_J, cL_J, cA_J, cJ_J, cR_J, cN_J, cI_R, cL_R, cA_R, cJ_R, cR_R, cN_R, cI_N, cL_N, cA_N, cJ_N, cR_N, cN_N, ↓reduceIte, Nat.reduceEqDiff, upd_at, updL_at, h5, h17, ec, h25, mByteR, mByteAt, mByteC, mOnC, mByteM, mByte]; done) | (simp [mI_I, mL_I, mA_I, mJ_I, mI_L, mL_L, mA_L, mJ_L, mI_A, mL_A, mA_A, mJ_A, mI_J, mL_J, mA_J, mJ_J, cI_I, cL_I, cA_I, cJ_I, cR_I, cN_I, cI_L, cL_L, cA_L, cJ_L, cR_L, cN_L, cI_A, cL_A, cA_A, cJ_A, cR_A, cN_A, cI_J, cL_J, cA_J, cJ_J, cR_J, cN_J, cI_R, cL_R, cA_R, cJ_R, cR_R, cN_R, cI_N, cL_N, cA_N, cJ_N, cR_N, cN_N, ↓reduceIte, Nat.reduceEqDiff, upd_at, updL_at, h5, h17, ec, h25, mByteR, mByteAt, mByteC, mOnC, mByteM, mByte]; rfl)
      · try simp only [mI_I, mL_I, mA_I, mJ_I, mI_L, mL_L, mA_L, mJ_L, mI_A, mL_A, mA_A, mJ_A, mI_J, mL_J, mA_J, mJ_J, cI_I, cL_I, cA_I, cJ_I, cR_I, cN_I, cI_L, cL_L, cA_L, cJ_L, cR_L, cN_L, cI_A, cL_A, cA_A, cJ_A, cR_A, cN_A, cI_J, cL_J, cA_J, cJ_J, cR_J, cN_J, cI_R, cL_R, cA_R, cJ_R, cR_R, cN_R, cI_N, cL_N, cA_N, cJ_N, cR_N, cN_N, ↓reduceIte, Nat.reduceEqDiff, upd_at, updL_at] at h25
        refine aw_iload_n (i := 2) C (dec D_Mod_byteAt rfl) rfl rfl ?_
        refine aw_aload_n (i := 0) C (dec D_Mod_byteAt rfl) rfl rfl ?_
        refine gf_Mod_29 C (dec D_Mod_byteAt rfl) ?_
        refine aw_iload_n (i := 1) C (dec D_Mod_byteAt rfl) rfl rfl ?_
        refine al_M4 C t (dec D_Mod_byteAt rfl) (ix_of ht) ?_
        refine aw_icmp_lt (tgt := 42) C (dec D_Mod_byteAt rfl) (by decide) (fun h35 => ?_) (fun h35 => ?_)
        · try simp only [mI_I, mL_I, mA_I, mJ_I, mI_L, mL_L, mA_L, mJ_L, mI_A, mL_A, mA_A, mJ_A, mI_J, mL_J, mA_J, mJ_J, cI_I, cL_I, cA_I, cJ_I, cR_I, cN_I, cI_L, cL_L, cA_L, cJ_L, cR_L, cN_L, cI_A, cL_A, cA_A, cJ_A, cR_A, cN_A, cI_J, cL_J, cA_J, cJ_J, cR_J, cN_J, cI_R, cL_R, cA_R, cJ_R, cR_R, cN_R, cI_N, cL_N, cA_N, cJ_N, cR_N, cN_N, ↓reduceIte, Nat.reduceEqDiff, upd_at, updL_at] at h35
          refine aw_iconst (v := 0) C (dec D_Mod_byteAt rfl) (by decide) ?_
          refine pf_Mod_71 C Fw (dec D_Mod_byteAt rfl) ?_
          refine aw_aload_n (i := 0) C (dec D_Mod_byteAt rfl) rfl rfl ?_
          refine gf_Mod_71 C (dec D_Mod_byteAt rfl) ?_
          refine aw_if_le (tgt := 55) C (dec D_Mod_byteAt rfl) (by decide) (fun _ => ?_) (fun h_ => absurd (show (0 : Int32) ≤ (0 : Int32) by decide) h_)
          obtain ⟨i, hi, rfl⟩ := lt_len (hL t ht).1 (hL t ht).2 h25 h35
          have hl1 := (hL t ht).2
          have ei := nI_clamp (n := i) (by omega)
          have hci := hC t (i / 8) ht (by unfold pg; omega)
          have ech : mA (smI m 0 0) 5 (64 * t + i / 8) = nI (ch t (i / 8)) := hci.1
          refine aw_aload_n (i := 0) C (dec D_Mod_byteAt rfl) rfl rfl ?_
          refine aw_iload_n (i := 1) C (dec D_Mod_byteAt rfl) rfl rfl ?_
          refine aw_aload_n (i := 0) C (dec D_Mod_byteAt rfl) rfl rfl ?_
          refine gf_Mod_32 C (dec D_Mod_byteAt rfl) ?_
          refine aw_bipush (v := 64) C (dec D_Mod_byteAt rfl) (by decide) ?_
          refine aw_iload_n (i := 1) C (dec D_Mod_byteAt rfl) rfl rfl ?_
          refine aw_imul C (dec D_Mod_byteAt rfl) ?_
          refine aw_iload_n (i := 2) C (dec D_Mod_byteAt rfl) rfl rfl ?_
          refine aw_bipush (v := 8) C (dec D_Mod_byteAt rfl) (by decide) ?_
          refine aw_idiv C (dec D_Mod_byteAt rfl) (by decide) ?_
          refine aw_iadd C (dec D_Mod_byteAt rfl) ?_
          refine al_M5 C (64 * t + i / 8) (dec D_Mod_byteAt rfl) (ix_eq (nI_ch8 (by omega)) (by omega)) ?_
          rw [ech]
          refine aw_cv C ci_Mod_179 [_, _] (c_Mod_load _ _ _ _ _ _ t (ch t (i / 8)) ht (by omega) (hW t ht)) (dec D_Mod_byteAt rfl) rcM rfl (fpW Fw) (Nat.le_of_ble_eq_true rfl) (by decide) ⟨by decide, by decide⟩ (fun v w2 hp => ?_) (fun _ _ h => by cases h.1)
          obtain ⟨hv, rfl⟩ := hp
          cases hv
          refine aw_aload_n (i := 0) C (dec D_Mod_byteAt rfl) rfl rfl ?_
          refine aw_aload_n (i := 0) C (dec D_Mod_byteAt rfl) rfl rfl ?_
          refine gf_Mod_21 C (dec D_Mod_byteAt rfl) ?_
          refine aw_if_eq (tgt := 86) C (dec D_Mod_byteAt rfl) (by decide) (fun h79 => ?_) (fun h79 => ?_)
          · try simp only [mI_I, mL_I, mA_I, mJ_I, mI_L, mL_L, mA_L, mJ_L, mI_A, mL_A, mA_A, mJ_A, mI_J, mL_J, mA_J, mJ_J, cI_I, cL_I, cA_I, cJ_I, cR_I, cN_I, cI_L, cL_L, cA_L, cJ_L, cR_L, cN_L, cI_A, cL_A, cA_A, cJ_A, cR_A, cN_A, cI_J, cL_J, cA_J, cJ_J, cR_J, cN_J, cI_R, cL_R, cA_R, cJ_R, cR_R, cN_R, cI_N, cL_N, cA_N, cJ_N, cR_N, cN_N, ↓reduceIte, Nat.reduceEqDiff, upd_at, updL_at] at h79
            refine aw_iconst (v := 1) C (dec D_Mod_byteAt rfl) (by decide) ?_
            refine pf_Mod_71 C Fw (dec D_Mod_byteAt rfl) ?_
            refine aw_aload_n (i := 0) C (dec D_Mod_byteAt rfl) rfl rfl ?_
            refine gf_Mod_71 C (dec D_Mod_byteAt rfl) ?_
            refine aw_if_le (tgt := 101) C (dec D_Mod_byteAt rfl) (by decide) (fun h_ => absurd h_ (show ¬ (1 : Int32) ≤ (0 : Int32) by decide)) (fun _ => ?_)
            refine aw_iconst (v := 0) C (dec D_Mod_byteAt rfl) (by decide) ?_
            refine aw_goto (tgt := 120) C (dec D_Mod_byteAt rfl) (by decide) ?_
            refine aw_ret_i C r (dec D_Mod_byteAt rfl) rfl (by decide) (by decide) ?_
            refine ⟨?_, ?_⟩ <;> first | with_reducible rfl | (simp [mI_I, mL_I, mA_I, mJ_I, mI_L, mL_L, mA_L, mJ_L, mI_A, mL_A, mA_A, mJ_A, mI_J, mL_J, mA_J, mJ_J, cI_I, cL_I, cA_I, cJ_I, cR_I, cN_I, cI_L, cL_L, cA_L, cJ_L, cR_L, cN_L, cI_A, cL_A, cA_A, cJ_A, cR_A, cN_A, cI_J, cL_J, cA_J, cJ_J, cR_J, cN_J, cI_R, cL_R, cA_R, cJ_R, cR_R, cN_R, cI_N, cL_N, cA_N, cJ_N, cR_N, cN_N, ↓reduceIte, Nat.reduceEqDiff, upd_at, updL_at, h5, h17, ec, h25, h35, ei, h79, mByteR, mByteAt, mByteC, mOnC, mByteM, mByte]; done) | (simp [mI_I, mL_I, mA_I, mJ_I, mI_L, mL_L, mA_L, mJ_L, mI_A, mL_A, mA_A, mJ_A, mI_J, mL_J, mA_J, mJ_J, cI_I, cL_I, cA_I, cJ_I, cR_I, cN_I, cI_L, cL_L, cA_L, cJ_L, cR_L, cN_L, cI_A, cL_A, cA_A, cJ_A, cR_A, cN_A, cI_J, cL_J, cA_J, cJ_J, cR_J, cN_J, cI_R, cL_R, cA_R, cJ_R, cR_R, cN_R, cI_N, cL_N, cA_N, cJ_N, cR_N, cN_N, ↓reduceIte, Nat.reduceEqDiff, upd_at, updL_at, h5, h17, ec, h25, h35, ei, h79, mByteR, mByteAt, mByteC, mOnC, mByteM, mByte]; rfl)
          · try simp only [mI_I, mL_I, mA_I, mJ_I, mI_L, mL_L, mA_L, mJ_L, mI_A, mL_A, mA_A, mJ_A, mI_J, mL_J, mA_J, mJ_J, cI_I, cL_I, cA_I, cJ_I, cR_I, cN_I, cI_L, cL_L, cA_L, cJ_L, cR_L, cN_L, cI_A, cL_A, cA_A, cJ_A, cR_A, cN_A, cI_J, cL_J, cA_J, cJ_J, cR_J, cN_J, cI_R, cL_R, cA_R, cJ_R, cR_R, cN_R, cI_N, cL_N, cA_N, cJ_N, cR_N, cN_N, ↓reduceIte, Nat.reduceEqDiff, upd_at, updL_at] at h79
            refine aw_iconst (v := 0) C (dec D_Mod_byteAt rfl) (by decide) ?_
            refine aw_goto (tgt := 87) C (dec D_Mod_byteAt rfl) (by decide) ?_
            refine pf_Mod_71 C Fw (dec D_Mod_byteAt rfl) ?_
            refine aw_aload_n (i := 0) C (dec D_Mod_byteAt rfl) rfl rfl ?_
            refine gf_Mod_71 C (dec D_Mod_byteAt rfl) ?_
            refine aw_if_le (tgt := 101) C (dec D_Mod_byteAt rfl) (by decide) (fun _ => ?_) (fun h_ => absurd (show (0 : Int32) ≤ (0 : Int32) by decide) h_)
            refine aw_aload_n (i := 0) C (dec D_Mod_byteAt rfl) rfl rfl ?_
            refine gf_Mod_38 C (dec D_Mod_byteAt rfl) ?_
            refine aw_iload_n (i := 1) C (dec D_Mod_byteAt rfl) rfl rfl ?_
            refine al_M7 C t (dec D_Mod_byteAt rfl) (ix_of ht) ?_
            refine aw_bipush (v := 8) C (dec D_Mod_byteAt rfl) (by decide) ?_
            refine aw_iload_n (i := 2) C (dec D_Mod_byteAt rfl) rfl rfl ?_
            refine aw_bipush (v := 8) C (dec D_Mod_byteAt rfl) (by decide) ?_
            refine aw_irem C (dec D_Mod_byteAt rfl) (by decide) ?_
            rw [irem8 (by omega)]
            refine aw_imul C (dec D_Mod_byteAt rfl) ?_
            refine aw_lshr C (dec D_Mod_byteAt rfl) ?_
            refine aw_ldc2 (v := 255) C (dec D_Mod_byteAt rfl) (List.mem_of_getElem? (i := 968) (by decide +kernel)) ?_
            refine aw_land C (dec D_Mod_byteAt rfl) ?_
            refine aw_l2i C (dec D_Mod_byteAt rfl) ?_
            refine aw_ret_i C r (dec D_Mod_byteAt rfl) rfl (by decide) (by decide) ?_
            refine ⟨?_, ?_⟩ <;> first | with_reducible rfl | (simp [mI_I, mL_I, mA_I, mJ_I, mI_L, mL_L, mA_L, mJ_L, mI_A, mL_A, mA_A, mJ_A, mI_J, mL_J, mA_J, mJ_J, cI_I, cL_I, cA_I, cJ_I, cR_I, cN_I, cI_L, cL_L, cA_L, cJ_L, cR_L, cN_L, cI_A, cL_A, cA_A, cJ_A, cR_A, cN_A, cI_J, cL_J, cA_J, cJ_J, cR_J, cN_J, cI_R, cL_R, cA_R, cJ_R, cR_R, cN_R, cI_N, cL_N, cA_N, cJ_N, cR_N, cN_N, ↓reduceIte, Nat.reduceEqDiff, upd_at, updL_at, h5, h17, ec, h25, h35, ei, h79, mByteR, mByteAt, mByteC, mOnC, mByteM, mByte]; done) | (simp [mI_I, mL_I, mA_I, mJ_I, mI_L, mL_L, mA_L, mJ_L, mI_A, mL_A, mA_A, mJ_A, mI_J, mL_J, mA_J, mJ_J, cI_I, cL_I, cA_I, cJ_I, cR_I, cN_I, cI_L, cL_L, cA_L, cJ_L, cR_L, cN_L, cI_A, cL_A, cA_A, cJ_A, cR_A, cN_A, cI_J, cL_J, cA_J, cJ_J, cR_J, cN_J, cI_R, cL_R, cA_R, cJ_R, cR_R, cN_R, cI_N, cL_N, cA_N, cJ_N, cR_N, cN_N, ↓reduceIte, Nat.reduceEqDiff, upd_at, updL_at, h5, h17, ec, h25, h35, ei, h79, mByteR, mByteAt, mByteC, mOnC, mByteM, mByte]; rfl)
        · try simp only [mI_I, mL_I, mA_I, mJ_I, mI_L, mL_L, mA_L, mJ_L, mI_A, mL_A, mA_A, mJ_A, mI_J, mL_J, mA_J, mJ_J, cI_I, cL_I, cA_I, cJ_I, cR_I, cN_I, cI_L, cL_L, cA_L, cJ_L, cR_L, cN_L, cI_A, cL_A, cA_A, cJ_A, cR_A, cN_A, cI_J, cL_J, cA_J, cJ_J, cR_J, cN_J, cI_R, cL_R, cA_R, cJ_R, cR_R, cN_R, cI_N, cL_N, cA_N, cJ_N, cR_N, cN_N, ↓reduceIte, Nat.reduceEqDiff, upd_at, updL_at] at h35
          refine aw_iconst (v := 3) C (dec D_Mod_byteAt rfl) (by decide) ?_
          refine aw_goto (tgt := 43) C (dec D_Mod_byteAt rfl) (by decide) ?_
          refine pf_Mod_71 C Fw (dec D_Mod_byteAt rfl) ?_
          refine aw_aload_n (i := 0) C (dec D_Mod_byteAt rfl) rfl rfl ?_
          refine gf_Mod_71 C (dec D_Mod_byteAt rfl) ?_
          refine aw_if_le (tgt := 55) C (dec D_Mod_byteAt rfl) (by decide) (fun h_ => absurd h_ (show ¬ (3 : Int32) ≤ (0 : Int32) by decide)) (fun _ => ?_)
          refine aw_iconst (v := 0) C (dec D_Mod_byteAt rfl) (by decide) ?_
          refine aw_ret_i C r (dec D_Mod_byteAt rfl) rfl (by decide) (by decide) ?_
          refine ⟨?_, ?_⟩ <;> first | with_reducible rfl | (simp [mI_I, mL_I, mA_I, mJ_I, mI_L, mL_L, mA_L, mJ_L, mI_A, mL_A, mA_A, mJ_A, mI_J, mL_J, mA_J, mJ_J, cI_I, cL_I, cA_I, cJ_I, cR_I, cN_I, cI_L, cL_L, cA_L, cJ_L, cR_L, cN_L, cI_A, cL_A, cA_A, cJ_A, cR_A, cN_A, cI_J, cL_J, cA_J, cJ_J, cR_J, cN_J, cI_R, cL_R, cA_R, cJ_R, cR_R, cN_R, cI_N, cL_N, cA_N, cJ_N, cR_N, cN_N, ↓reduceIte, Nat.reduceEqDiff, upd_at, updL_at, h5, h17, ec, h25, h35, mByteR, mByteAt, mByteC, mOnC, mByteM, mByte]; done) | (simp [mI_I, mL_I, mA_I, mJ_I, mI_L, mL_L, mA_L, mJ_L, mI_A, mL_A, mA_A, mJ_A, mI_J, mL_J, mA_J, mJ_J, cI_I, cL_I, cA_I, cJ_I, cR_I, cN_I, cI_L, cL_L, cA_L, cJ_L, cR_L, cN_L, cI_A, cL_A, cA_A, cJ_A, cR_A, cN_A, cI_J, cL_J, cA_J, cJ_J, cR_J, cN_J, cI_R, cL_R, cA_R, cJ_R, cR_R, cN_R, cI_N, cL_N, cA_N, cJ_N, cR_N, cN_N, ↓reduceIte, Nat.reduceEqDiff, upd_at, updL_at, h5, h17, ec, h25, h35, mByteR, mByteAt, mByteC, mOnC, mByteM, mByte]; rfl)
    · try simp only [mI_I, mL_I, mA_I, mJ_I, mI_L, mL_L, mA_L, mJ_L, mI_A, mL_A, mA_A, mJ_A, mI_J, mL_J, mA_J, mJ_J, cI_I, cL_I, cA_I, cJ_I, cR_I, cN_I, cI_L, cL_L, cA_L, cJ_L, cR_L, cN_L, cI_A, cL_A, cA_A, cJ_A, cR_A, cN_A, cI_J, cL_J, cA_J, cJ_J, cR_J, cN_J, cI_R, cL_R, cA_R, cJ_R, cR_R, cN_R, cI_N, cL_N, cA_N, cJ_N, cR_N, cN_N, ↓reduceIte, Nat.reduceEqDiff, upd_at, updL_at] at h17
      refine aw_iconst (v := 2) C (dec D_Mod_byteAt rfl) (by decide) ?_
      refine aw_goto (tgt := 43) C (dec D_Mod_byteAt rfl) (by decide) ?_
      refine pf_Mod_71 C Fw (dec D_Mod_byteAt rfl) ?_
      refine aw_aload_n (i := 0) C (dec D_Mod_byteAt rfl) rfl rfl ?_
      refine gf_Mod_71 C (dec D_Mod_byteAt rfl) ?_
      refine aw_if_le (tgt := 55) C (dec D_Mod_byteAt rfl) (by decide) (fun h_ => absurd h_ (show ¬ (2 : Int32) ≤ (0 : Int32) by decide)) (fun _ => ?_)
      refine aw_iconst (v := 0) C (dec D_Mod_byteAt rfl) (by decide) ?_
      refine aw_ret_i C r (dec D_Mod_byteAt rfl) rfl (by decide) (by decide) ?_
      refine ⟨?_, ?_⟩ <;> first | with_reducible rfl | (simp [mI_I, mL_I, mA_I, mJ_I, mI_L, mL_L, mA_L, mJ_L, mI_A, mL_A, mA_A, mJ_A, mI_J, mL_J, mA_J, mJ_J, cI_I, cL_I, cA_I, cJ_I, cR_I, cN_I, cI_L, cL_L, cA_L, cJ_L, cR_L, cN_L, cI_A, cL_A, cA_A, cJ_A, cR_A, cN_A, cI_J, cL_J, cA_J, cJ_J, cR_J, cN_J, cI_R, cL_R, cA_R, cJ_R, cR_R, cN_R, cI_N, cL_N, cA_N, cJ_N, cR_N, cN_N, ↓reduceIte, Nat.reduceEqDiff, upd_at, updL_at, h5, h17, mByteR, mByteAt, mByteC, mOnC, mByteM, mByte]; done) | (simp [mI_I, mL_I, mA_I, mJ_I, mI_L, mL_L, mA_L, mJ_L, mI_A, mL_A, mA_A, mJ_A, mI_J, mL_J, mA_J, mJ_J, cI_I, cL_I, cA_I, cJ_I, cR_I, cN_I, cI_L, cL_L, cA_L, cJ_L, cR_L, cN_L, cI_A, cL_A, cA_A, cJ_A, cR_A, cN_A, cI_J, cL_J, cA_J, cJ_J, cR_J, cN_J, cI_R, cL_R, cA_R, cJ_R, cR_R, cN_R, cI_N, cL_N, cA_N, cJ_N, cR_N, cN_N, ↓reduceIte, Nat.reduceEqDiff, upd_at, updL_at, h5, h17, mByteR, mByteAt, mByteC, mOnC, mByteM, mByte]; rfl)
  · try simp only [mI_I, mL_I, mA_I, mJ_I, mI_L, mL_L, mA_L, mJ_L, mI_A, mL_A, mA_A, mJ_A, mI_J, mL_J, mA_J, mJ_J, cI_I, cL_I, cA_I, cJ_I, cR_I, cN_I, cI_L, cL_L, cA_L, cJ_L, cR_L, cN_L, cI_A, cL_A, cA_A, cJ_A, cR_A, cN_A, cI_J, cL_J, cA_J, cJ_J, cR_J, cN_J, cI_R, cL_R, cA_R, cJ_R, cR_R, cN_R, cI_N, cL_N, cA_N, cJ_N, cR_N, cN_N, ↓reduceIte, Nat.reduceEqDiff, upd_at, updL_at] at h5
    refine aw_iconst (v := 1) C (dec D_Mod_byteAt rfl) (by decide) ?_
    refine aw_goto (tgt := 43) C (dec D_Mod_byteAt rfl) (by decide) ?_
    refine pf_Mod_71 C Fw (dec D_Mod_byteAt rfl) ?_
    refine aw_aload_n (i := 0) C (dec D_Mod_byteAt rfl) rfl rfl ?_
    refine gf_Mod_71 C (dec D_Mod_byteAt rfl) ?_
    refine aw_if_le (tgt := 55) C (dec D_Mod_byteAt rfl) (by decide) (fun h_ => absurd h_ (show ¬ (1 : Int32) ≤ (0 : Int32) by decide)) (fun _ => ?_)
    refine aw_iconst (v := 0) C (dec D_Mod_byteAt rfl) (by decide) ?_
    refine aw_ret_i C r (dec D_Mod_byteAt rfl) rfl (by decide) (by decide) ?_
    refine ⟨?_, ?_⟩ <;> first | with_reducible rfl | (simp [mI_I, mL_I, mA_I, mJ_I, mI_L, mL_L, mA_L, mJ_L, mI_A, mL_A, mA_A, mJ_A, mI_J, mL_J, mA_J, mJ_J, cI_I, cL_I, cA_I, cJ_I, cR_I, cN_I, cI_L, cL_L, cA_L, cJ_L, cR_L, cN_L, cI_A, cL_A, cA_A, cJ_A, cR_A, cN_A, cI_J, cL_J, cA_J, cJ_J, cR_J, cN_J, cI_R, cL_R, cA_R, cJ_R, cR_R, cN_R, cI_N, cL_N, cA_N, cJ_N, cR_N, cN_N, ↓reduceIte, Nat.reduceEqDiff, upd_at, updL_at, h5, mByteR, mByteAt, mByteC, mOnC, mByteM, mByte]; done) | (simp [mI_I, mL_I, mA_I, mJ_I, mI_L, mL_L, mA_L, mJ_L, mI_A, mL_A, mA_A, mJ_A, mI_J, mL_J, mA_J, mJ_J, cI_I, cL_I, cA_I, cJ_I, cR_I, cN_I, cI_L, cL_L, cA_L, cJ_L, cR_L, cN_L, cI_A, cL_A, cA_A, cJ_A, cR_A, cN_A, cI_J, cL_J, cA_J, cJ_J, cR_J, cN_J, cI_R, cL_R, cA_R, cJ_R, cR_R, cN_R, cI_N, cL_N, cA_N, cJ_N, cR_N, cN_N, ↓reduceIte, Nat.reduceEqDiff, upd_at, updL_at, h5, mByteR, mByteAt, mByteC, mOnC, mByteM, mByte]; rfl)
def dl_Mod_append_1 : List (Nat × Instr × Nat) := [(145, .lastore, 1), (146, .goto 14, 3), (149, .aload_n 0, 1), (150, .iload_n 1, 1), (151, .aload_n 0, 1), (152, .getfield 32, 3), (155, .iload_n 3, 1), (156, .iaload, 1), (157, .invokevirtual 179, 3), (160, .aload_n 0, 1), (161, .aload_n 0, 1), (162, .getfield 21, 3), (165, .ifCond .eq 7, 3), (168, .iconst 0, 1), (169, .goto 4, 3), (172, .iconst 1, 1), (173, .putfield 71, 3), (176, .aload_n 0, 1), (177, .getfield 71, 3), (180, .ifCond .le 5, 3), (183, .iconst 0, 1), (184, .ireturn, 1), (185, .iload 5, 2), (187, .ifCond .eq 19, 3), (190, .aload_n 0, 1), (191, .getfield 32, 3), (194, .iload_n 3, 1), (195, .iload 6, 2), (197, .iastore, 1), (198, .aload_n 0, 1), (199, .getfield 35, 3), (202, .iload_n 1, 1), (203, .iload 6, 2), (205, .iastore, 1), (206, .bipush 8, 2), (208, .aload_n 0, 1), (209, .getfield 29, 3), (212, .iload_n 1, 1), (213, .iaload, 1), (214, .bipush 8, 2), (216, .irem, 1), (217, .imul, 1), (218, .istore 7, 2), (220, .aload_n 0, 1), (221, .getfield 38, 3), (224, .iload_n 1, 1), (225, .aload_n 0, 1), (226, .getfield 38, 3), (229, .iload_n 1, 1), (230, .laload, 1), (231, .ldc2_w 119, 3), (234, .iload 7, 2), (236, .lshl, 1), (237, .ldc2_w 183, 3), (240, .lxor, 1), (241, .land, 1), (242, .iload_n 2, 1), (243, .i2l, 1), (244, .ldc2_w 119, 3), (247, .land, 1), (248, .iload 7, 2), (250, .lshl, 1), (251, .lor, 1), (252, .lastore, 1), (253, .aload_n 0, 1), (254, .getfield 41, 3), (257, .iload_n 1, 1), (258, .iconst 1, 1), (259, .bastore, 1), (260, .aload_n 0, 1), (261, .getfield 29, 3), (264, .iload_n 1, 1), (265, .dup2, 1), (266, .iaload, 1), (267, .iconst 1, 1), (268, .iadd, 1), (269, .iastore, 1), (270, .aload_n 0, 1), (271, .getfield 29, 3), (274, .iload_n 1, 1)]
theorem D_Mod_append_1 : ∀ q ∈ dl_Mod_append_1, decode b_Mod_append q.1 = .ok q.2 := by decide +kernel
def dl_Mod_append_2 : List (Nat × Instr × Nat) := [(275, .iaload, 1), (276, .ireturn, 1)]
theorem D_Mod_append_2 : ∀ q ∈ dl_Mod_append_2, decode b_Mod_append q.1 = .ok q.2 := by decide +kernel
theorem c_Mod_append (l : Launch) (G : GG) (a : AD) (c : CC) (m : MM) (o : OO) (x b : Int32) (L : Nat → Nat) (ch : Nat → Nat → Nat) (hL : MLn m L) (hC : MCh m L ch) (hW : MWin m) : CT l G y_Mod_append (.code y_Mod_append b_Mod_append 8 (some .int)) 6 0 0 (Fyes G) (wld G a c m o) [.ref (a 30 0), .int x, .int b] (fun r w2 => r = .inl (some (.int (mAppendR m L ch x b))) ∧ w2 = wld G a c (mAppend m L ch x b) o) := by
  refine CT.of (by decide) (Nat.le_of_ble_eq_true rfl) rfl ?_
  intro E hl hG hF C r hw hex hnm
  subst hl; subst hG
  have Fw : Cw E := fun a h => by rw [hF]; exact h
  have k37 : ∀ t : Nat, t < 8 → x = nI t → mGate m x = 0 → AW E false 0 0 (wld (eG E) a c (smI m 0 0) o) 37 [(0, .ref (a 30 0)), (1, .int x), (2, .int b)] [] := by
    intro t ht ex hg
    subst ex
    have ec := nI_clamp (n := t) (by omega)
    have hl1 := (hL t ht).2
    have el : mA (smI m 0 0) 4 t = nI (L t) := (hL t ht).1
    have k206 : ∀ m2 : MM, m2 = mApp2 m L ch t → ¬ (mNeeds m L ch t = true ∧ mLeast (smI m 0 0) L 61 40 < 0) → ¬ mI (mApp1 m L ch t) 4 = 0 → ∀ x3 x4 x5 x6 : Int32, AW E false 0 0 (wld (eG E) a c m2 o) 206 [(0, .ref (a 30 0)), (1, .int (nI t)), (2, .int b), (3, .int x3), (4, .int x4), (5, .int x5), (6, .int x6)] [] := by
      intro m2 e2 hn ho x3 x4 x5 x6
      refine aw_bipush (v := 8) C (dec D_Mod_append_1 rfl) (by decide) ?_
      refine aw_aload_n (i := 0) C (dec D_Mod_append_1 rfl) rfl rfl ?_
      refine gf_Mod_29 C (dec D_Mod_append_1 rfl) ?_
      refine aw_iload_n (i := 1) C (dec D_Mod_append_1 rfl) rfl rfl ?_
      refine al_M4 C t (dec D_Mod_append_1 rfl) (ix_of ht) ?_
      refine aw_bipush (v := 8) C (dec D_Mod_append_1 rfl) (by decide) ?_
      refine aw_irem C (dec D_Mod_append_1 rfl) (by decide) ?_
      refine aw_imul C (dec D_Mod_append_1 rfl) ?_
      refine aw_istore C (dec D_Mod_append_1 rfl) (by decide) ?_
      refine AW.ls [(0, .ref (a 30 0)), (1, .int (nI t)), (2, .int b), (7, .int (8 * (mA m2 4 t - mA m2 4 t / 8 * 8)))] rfl ?_
      refine aw_aload_n (i := 0) C (dec D_Mod_append_1 rfl) rfl rfl ?_
      refine gf_Mod_38 C (dec D_Mod_append_1 rfl) ?_
      refine aw_iload_n (i := 1) C (dec D_Mod_append_1 rfl) rfl rfl ?_
      refine aw_aload_n (i := 0) C (dec D_Mod_append_1 rfl) rfl rfl ?_
      refine gf_Mod_38 C (dec D_Mod_append_1 rfl) ?_
      refine aw_iload_n (i := 1) C (dec D_Mod_append_1 rfl) rfl rfl ?_
      refine al_M7 C t (dec D_Mod_append_1 rfl) (ix_of ht) ?_
      refine aw_ldc2 (v := 255) C (dec D_Mod_append_1 rfl) (List.mem_of_getElem? (i := 968) (by decide +kernel)) ?_
      refine aw_iload C (dec D_Mod_append_1 rfl) rfl ?_
      refine aw_lshl C (dec D_Mod_append_1 rfl) ?_
      show AW E _ _ _ _ 237 _ _
      refine aw_ldc2 (v := (-1)) C (dec D_Mod_append_1 rfl) (List.mem_of_getElem? (i := 1042) (by decide +kernel)) ?_
      refine aw_lxor C (dec D_Mod_append_1 rfl) ?_
      refine aw_land C (dec D_Mod_append_1 rfl) ?_
      refine aw_iload_n (i := 2) C (dec D_Mod_append_1 rfl) rfl rfl ?_
      refine aw_i2l C (dec D_Mod_append_1 rfl) ?_
      refine aw_ldc2 (v := 255) C (dec D_Mod_append_1 rfl) (List.mem_of_getElem? (i := 968) (by decide +kernel)) ?_
      refine aw_land C (dec D_Mod_append_1 rfl) ?_
      refine aw_iload C (dec D_Mod_append_1 rfl) rfl ?_
      refine aw_lshl C (dec D_Mod_append_1 rfl) ?_
      refine aw_lor C (dec D_Mod_append_1 rfl) ?_
      refine as_M7 C Fw t (dec D_Mod_append_1 rfl) (ix_of ht) ?_
      generalize e3 : mSJ m2 7 t (putR (mJ m2 7 t) (8 * (mA m2 4 t - mA m2 4 t / 8 * 8)) b) = m3
      change AW E false 0 0 (wld (eG E) a c (mSJ m2 7 t (putR (mJ m2 7 t) (8 * (mA m2 4 t - mA m2 4 t / 8 * 8)) b)) o) _ _ _
      rw [e3]
      refine aw_aload_n (i := 0) C (dec D_Mod_append_1 rfl) rfl rfl ?_
      refine gf_Mod_41 C (dec D_Mod_append_1 rfl) ?_
      refine aw_iload_n (i := 1) C (dec D_Mod_append_1 rfl) rfl rfl ?_
      refine aw_iconst (v := 1) C (dec D_Mod_append_1 rfl) (by decide) ?_
      refine as_M8 C Fw t bz1 (dec D_Mod_append_1 rfl) (ix_of ht) ?_
      generalize e4 : mS m3 8 t 1 = m4
      change AW E false 0 0 (wld (eG E) a c (mS m3 8 t 1) o) _ _ _
      rw [e4]
      refine aw_aload_n (i := 0) C (dec D_Mod_append_1 rfl) rfl rfl ?_
      refine gf_Mod_29 C (dec D_Mod_append_1 rfl) ?_
      refine aw_iload_n (i := 1) C (dec D_Mod_append_1 rfl) rfl rfl ?_
      refine aw_dup2 C (dec D_Mod_append_1 rfl) rfl rfl ?_
      show AW E _ _ _ _ 266 _ _
      refine al_M4 C t (dec D_Mod_append_1 rfl) (ix_of ht) ?_
      refine aw_iconst (v := 1) C (dec D_Mod_append_1 rfl) (by decide) ?_
      refine aw_iadd C (dec D_Mod_append_1 rfl) ?_
      refine as_M4 C Fw t (dec D_Mod_append_1 rfl) (ix_of ht) ?_
      refine aw_aload_n (i := 0) C (dec D_Mod_append_1 rfl) rfl rfl ?_
      refine gf_Mod_29 C (dec D_Mod_append_1 rfl) ?_
      refine aw_iload_n (i := 1) C (dec D_Mod_append_1 rfl) rfl rfl ?_
      refine al_M4 C t (dec D_Mod_append_2 rfl) (ix_of ht) ?_
      refine aw_ret_i C r (dec D_Mod_append_2 rfl) rfl (by decide) (by decide) ?_
      have e5 : mApp4 m L ch t b = mS m4 4 t (mA m4 4 t + 1) := by rw [mApp4, mApp3, ← e2, e3, e4]
      refine ⟨?_, ?_⟩
      · rw [mAppendR, if_pos hg, ec, if_neg hn, if_neg ho, e5]; rfl
      · rw [mAppend, if_pos hg, ec, if_neg hn, if_neg ho, e5]; rfl
    have k160 : ∀ m1 : MM, m1 = mApp1 m L ch t → ¬ (mNeeds m L ch t = true ∧ mLeast (smI m 0 0) L 61 40 < 0) → ∀ x4 x5 x6 : Int32, x5 = bI (mNeeds m L ch t) → (mNeeds m L ch t = true → x6 = mLeast (smI m 0 0) L 61 40) → AW E false 0 0 (wld (eG E) a c m1 o) 160 [(0, .ref (a 30 0)), (1, .int (nI t)), (2, .int b), (3, .int (nI (64 * t + L t / 8))), (4, .int x4), (5, .int x5), (6, .int x6)] [] := by
      intro m1 e1 hn x4 x5 x6 e5 e6
      refine aw_aload_n (i := 0) C (dec D_Mod_append_1 rfl) rfl rfl ?_
      refine aw_aload_n (i := 0) C (dec D_Mod_append_1 rfl) rfl rfl ?_
      refine gf_Mod_21 C (dec D_Mod_append_1 rfl) ?_
      refine aw_if_eq (tgt := 172) C (dec D_Mod_append_1 rfl) (by decide) (fun h165 => ?_) (fun h165 => ?_)
      · try simp only [mI_I, mL_I, mA_I, mJ_I, mI_L, mL_L, mA_L, mJ_L, mI_A, mL_A, mA_A, mJ_A, mI_J, mL_J, mA_J, mJ_J, cI_I, cL_I, cA_I, cJ_I, cR_I, cN_I, cI_L, cL_L, cA_L, cJ_L, cR_L, cN_L, cI_A, cL_A, cA_A, cJ_A, cR_A, cN_A, cI_J, cL_J, cA_J, cJ_J, cR_J, cN_J, cI_R, cL_R, cA_R, cJ_R, cR_R, cN_R, cI_N, cL_N, cA_N, cJ_N, cR_N, cN_N, ↓reduceIte, Nat.reduceEqDiff, upd_at, updL_at] at h165
        refine aw_iconst (v := 1) C (dec D_Mod_append_1 rfl) (by decide) ?_
        refine pf_Mod_71 C Fw (dec D_Mod_append_1 rfl) ?_
        refine aw_aload_n (i := 0) C (dec D_Mod_append_1 rfl) rfl rfl ?_
        refine gf_Mod_71 C (dec D_Mod_append_1 rfl) ?_
        refine aw_if_le (tgt := 185) C (dec D_Mod_append_1 rfl) (by decide) (fun h_ => absurd h_ (show ¬ (1 : Int32) ≤ (0 : Int32) by decide)) (fun _ => ?_)
        refine aw_iconst (v := 0) C (dec D_Mod_append_1 rfl) (by decide) ?_
        refine aw_ret_i C r (dec D_Mod_append_1 rfl) rfl (by decide) (by decide) ?_
        exact ⟨by rw [mAppendR, if_pos hg, ec, if_neg hn, if_pos (e1 ▸ h165)], by rw [mAppend, if_pos hg, ec, if_neg hn, if_pos (e1 ▸ h165), ← e1]⟩
      · try simp only [mI_I, mL_I, mA_I, mJ_I, mI_L, mL_L, mA_L, mJ_L, mI_A, mL_A, mA_A, mJ_A, mI_J, mL_J, mA_J, mJ_J, cI_I, cL_I, cA_I, cJ_I, cR_I, cN_I, cI_L, cL_L, cA_L, cJ_L, cR_L, cN_L, cI_A, cL_A, cA_A, cJ_A, cR_A, cN_A, cI_J, cL_J, cA_J, cJ_J, cR_J, cN_J, cI_R, cL_R, cA_R, cJ_R, cR_R, cN_R, cI_N, cL_N, cA_N, cJ_N, cR_N, cN_N, ↓reduceIte, Nat.reduceEqDiff, upd_at, updL_at] at h165
        refine aw_iconst (v := 0) C (dec D_Mod_append_1 rfl) (by decide) ?_
        refine aw_goto (tgt := 173) C (dec D_Mod_append_1 rfl) (by decide) ?_
        show AW E _ _ _ _ 173 _ _
        refine pf_Mod_71 C Fw (dec D_Mod_append_1 rfl) ?_
        refine aw_aload_n (i := 0) C (dec D_Mod_append_1 rfl) rfl rfl ?_
        refine gf_Mod_71 C (dec D_Mod_append_1 rfl) ?_
        refine aw_if_le (tgt := 185) C (dec D_Mod_append_1 rfl) (by decide) (fun _ => ?_) (fun h_ => absurd (show (0 : Int32) ≤ (0 : Int32) by decide) h_)
        refine aw_iload C (dec D_Mod_append_1 rfl) rfl ?_
        refine aw_if_eq (tgt := 206) C (dec D_Mod_append_1 rfl) (by decide) (fun h187 => ?_) (fun h187 => ?_)
        · try simp only [mI_I, mL_I, mA_I, mJ_I, mI_L, mL_L, mA_L, mJ_L, mI_A, mL_A, mA_A, mJ_A, mI_J, mL_J, mA_J, mJ_J, cI_I, cL_I, cA_I, cJ_I, cR_I, cN_I, cI_L, cL_L, cA_L, cJ_L, cR_L, cN_L, cI_A, cL_A, cA_A, cJ_A, cR_A, cN_A, cI_J, cL_J, cA_J, cJ_J, cR_J, cN_J, cI_R, cL_R, cA_R, cJ_R, cR_R, cN_R, cI_N, cL_N, cA_N, cJ_N, cR_N, cN_N, ↓reduceIte, Nat.reduceEqDiff, upd_at, updL_at] at h187
          have hne : mNeeds m L ch t = false := bI_0.mp (e5 ▸ h187)
          exact k206 _ (by rw [mApp2, hne, ← e1]; rfl) hn (e1 ▸ h165) _ _ _ _
        · try simp only [mI_I, mL_I, mA_I, mJ_I, mI_L, mL_L, mA_L, mJ_L, mI_A, mL_A, mA_A, mJ_A, mI_J, mL_J, mA_J, mJ_J, cI_I, cL_I, cA_I, cJ_I, cR_I, cN_I, cI_L, cL_L, cA_L, cJ_L, cR_L, cN_L, cI_A, cL_A, cA_A, cJ_A, cR_A, cN_A, cI_J, cL_J, cA_J, cJ_J, cR_J, cN_J, cI_R, cL_R, cA_R, cJ_R, cR_R, cN_R, cI_N, cL_N, cA_N, cJ_N, cR_N, cN_N, ↓reduceIte, Nat.reduceEqDiff, upd_at, updL_at] at h187
          have hne : mNeeds m L ch t = true := by have z := mt bI_0.mpr (e5 ▸ h187); simpa using z
          obtain rfl := e6 hne
          refine aw_aload_n (i := 0) C (dec D_Mod_append_1 rfl) rfl rfl ?_
          refine gf_Mod_32 C (dec D_Mod_append_1 rfl) ?_
          refine aw_iload_n (i := 3) C (dec D_Mod_append_1 rfl) rfl rfl ?_
          refine aw_iload C (dec D_Mod_append_1 rfl) rfl ?_
          refine as_M5 C Fw (64 * t + L t / 8) (dec D_Mod_append_1 rfl) (ix_of (by omega)) ?_
          refine aw_aload_n (i := 0) C (dec D_Mod_append_1 rfl) rfl rfl ?_
          refine gf_Mod_35 C (dec D_Mod_append_1 rfl) ?_
          refine aw_iload_n (i := 1) C (dec D_Mod_append_1 rfl) rfl rfl ?_
          refine aw_iload C (dec D_Mod_append_1 rfl) rfl ?_
          refine as_M6 C Fw t (dec D_Mod_append_1 rfl) (ix_of ht) ?_
          exact k206 _ (by rw [mApp2, hne, ← e1]; rfl) hn (e1 ▸ h165) _ _ _ _
    refine aw_bipush (v := 64) C (dec D_Mod_append rfl) (by decide) ?_
    refine aw_iload_n (i := 1) C (dec D_Mod_append rfl) rfl rfl ?_
    refine aw_imul C (dec D_Mod_append rfl) ?_
    refine aw_aload_n (i := 0) C (dec D_Mod_append rfl) rfl rfl ?_
    refine gf_Mod_29 C (dec D_Mod_append rfl) ?_
    refine aw_iload_n (i := 1) C (dec D_Mod_append rfl) rfl rfl ?_
    show AW E _ _ _ _ 46 _ _
    refine al_M4 C t (dec D_Mod_append rfl) (ix_of ht) ?_
    rw [el]
    refine aw_bipush (v := 8) C (dec D_Mod_append rfl) (by decide) ?_
    refine aw_idiv C (dec D_Mod_append rfl) (by decide) ?_
    refine aw_iadd C (dec D_Mod_append rfl) ?_
    rw [nI_ch8 (by omega)]
    refine aw_istore_n (i := 3) C (dec D_Mod_append rfl) rfl (by decide) ?_
    refine aw_aload_n (i := 0) C (dec D_Mod_append rfl) rfl rfl ?_
    refine gf_Mod_29 C (dec D_Mod_append rfl) ?_
    refine aw_iload_n (i := 1) C (dec D_Mod_append rfl) rfl rfl ?_
    refine al_M4 C t (dec D_Mod_append rfl) (ix_of ht) ?_
    rw [el]
    refine aw_bipush (v := 8) C (dec D_Mod_append rfl) (by decide) ?_
    refine aw_irem C (dec D_Mod_append rfl) (by decide) ?_
    rw [irem8 (by omega)]
    refine aw_if_ne (tgt := 68) C (dec D_Mod_append rfl) (by decide) (fun h61 => ?_) (fun h61 => ?_)
    · try simp only [mI_I, mL_I, mA_I, mJ_I, mI_L, mL_L, mA_L, mJ_L, mI_A, mL_A, mA_A, mJ_A, mI_J, mL_J, mA_J, mJ_J, cI_I, cL_I, cA_I, cJ_I, cR_I, cN_I, cI_L, cL_L, cA_L, cJ_L, cR_L, cN_L, cI_A, cL_A, cA_A, cJ_A, cR_A, cN_A, cI_J, cL_J, cA_J, cJ_J, cR_J, cN_J, cI_R, cL_R, cA_R, cJ_R, cR_R, cN_R, cI_N, cL_N, cA_N, cJ_N, cR_N, cN_N, ↓reduceIte, Nat.reduceEqDiff, upd_at, updL_at] at h61
      have hm8 : ¬ L t % 8 = 0 := fun z => h61 (by rw [z]; rfl)
      have hfr : mFresh L t = false := decide_eq_false hm8
      have hci := hC t (L t / 8) ht (by unfold pg; omega)
      have ech : mA (smI m 0 0) 5 (64 * t + L t / 8) = nI (ch t (L t / 8)) := hci.1
      refine aw_iconst (v := 0) C (dec D_Mod_append rfl) (by decide) ?_
      refine aw_istore C (dec D_Mod_append rfl) (by decide) ?_
      refine AW.ls [(0, .ref (a 30 0)), (1, .int (nI t)), (2, .int b), (3, .int (nI (64 * t + L t / 8))), (4, .int 0)] rfl ?_
      refine aw_iload C (dec D_Mod_append rfl) rfl ?_
      refine aw_if_ne (tgt := 90) C (dec D_Mod_append rfl) (by decide) (fun h_ => absurd (show (0 : Int32) = (0 : Int32) by decide) h_) (fun _ => ?_)
      refine aw_aload_n (i := 0) C (dec D_Mod_append rfl) rfl rfl ?_
      refine gf_Mod_44 C (dec D_Mod_append rfl) ?_
      refine aw_aload_n (i := 0) C (dec D_Mod_append rfl) rfl rfl ?_
      refine gf_Mod_32 C (dec D_Mod_append rfl) ?_
      refine aw_iload_n (i := 3) C (dec D_Mod_append rfl) rfl rfl ?_
      refine al_M5 C (64 * t + L t / 8) (dec D_Mod_append rfl) (ix_of (by omega)) ?_
      rw [ech]
      show AW E _ _ _ _ 86 _ _
      refine al_M9 C (ch t (L t / 8)) (dec D_Mod_append rfl) (ix_of (by omega)) ?_
      refine aw_if_eq (tgt := 94) C (dec D_Mod_append rfl) (by decide) (fun h87 => ?_) (fun h87 => ?_)
      · try simp only [mI_I, mL_I, mA_I, mJ_I, mI_L, mL_L, mA_L, mJ_L, mI_A, mL_A, mA_A, mJ_A, mI_J, mL_J, mA_J, mJ_J, cI_I, cL_I, cA_I, cJ_I, cR_I, cN_I, cI_L, cL_L, cA_L, cJ_L, cR_L, cN_L, cI_A, cL_A, cA_A, cJ_A, cR_A, cN_A, cI_J, cL_J, cA_J, cJ_J, cR_J, cN_J, cI_R, cL_R, cA_R, cJ_R, cR_R, cN_R, cI_N, cL_N, cA_N, cJ_N, cR_N, cN_N, ↓reduceIte, Nat.reduceEqDiff, upd_at, updL_at] at h87
        have hne : mNeeds m L ch t = false := by rw [mNeeds, hfr, decide_eq_true h87]; rfl
        refine aw_iconst (v := 0) C (dec D_Mod_append rfl) (by decide) ?_
        refine aw_istore C (dec D_Mod_append rfl) (by decide) ?_
        refine aw_iload C (dec D_Mod_append rfl) rfl ?_
        refine aw_if_eq (tgt := 109) C (dec D_Mod_append rfl) (by decide) (fun _ => ?_) (fun h_ => absurd (show (0 : Int32) = (0 : Int32) by decide) h_)
        refine aw_iconst (v := (-1)) C (dec D_Mod_append rfl) (by decide) ?_
        refine aw_istore C (dec D_Mod_append rfl) (by decide) ?_
        refine AW.ls [(0, .ref (a 30 0)), (1, .int (nI t)), (2, .int b), (3, .int (nI (64 * t + L t / 8))), (4, .int 0), (5, .int 0), (6, .int (-1))] rfl ?_
        refine aw_iload C (dec D_Mod_append rfl) rfl ?_
        refine aw_if_eq (tgt := 129) C (dec D_Mod_append rfl) (by decide) (fun _ => ?_) (fun h_ => absurd (show (0 : Int32) = (0 : Int32) by decide) h_)
        refine aw_iload C (dec D_Mod_append rfl) rfl ?_
        refine aw_if_eq (tgt := 149) C (dec D_Mod_append rfl) (by decide) (fun _ => ?_) (fun h_ => absurd (show (0 : Int32) = (0 : Int32) by decide) h_)
        refine aw_aload_n (i := 0) C (dec D_Mod_append_1 rfl) rfl rfl ?_
        refine aw_iload_n (i := 1) C (dec D_Mod_append_1 rfl) rfl rfl ?_
        refine aw_aload_n (i := 0) C (dec D_Mod_append_1 rfl) rfl rfl ?_
        refine gf_Mod_32 C (dec D_Mod_append_1 rfl) ?_
        refine aw_iload_n (i := 3) C (dec D_Mod_append_1 rfl) rfl rfl ?_
        refine al_M5 C (64 * t + L t / 8) (dec D_Mod_append_1 rfl) (ix_of (by omega)) ?_
        rw [ech]
        refine aw_cv C ci_Mod_179 [_, _] (c_Mod_load _ _ _ _ _ _ t (ch t (L t / 8)) ht (by omega) (hW t ht)) (dec D_Mod_append_1 rfl) rcM rfl (fpW Fw) (Nat.le_of_ble_eq_true rfl) (by decide) ⟨by decide, by decide⟩ (fun v w2 hp => ?_) (fun _ _ h => by cases h.1)
        obtain ⟨hv, rfl⟩ := hp
        cases hv
        have hn : ¬ (mNeeds m L ch t = true ∧ mLeast (smI m 0 0) L 61 40 < 0) := fun z => by rw [hne] at z; exact absurd z.1 (by decide)
        exact k160 _ (by rw [mApp1, hfr]; rfl) hn _ _ _ (by rw [hne]; rfl) (fun z => by rw [hne] at z; exact absurd z (by decide))
      · try simp only [mI_I, mL_I, mA_I, mJ_I, mI_L, mL_L, mA_L, mJ_L, mI_A, mL_A, mA_A, mJ_A, mI_J, mL_J, mA_J, mJ_J, cI_I, cL_I, cA_I, cJ_I, cR_I, cN_I, cI_L, cL_L, cA_L, cJ_L, cR_L, cN_L, cI_A, cL_A, cA_A, cJ_A, cR_A, cN_A, cI_J, cL_J, cA_J, cJ_J, cR_J, cN_J, cI_R, cL_R, cA_R, cJ_R, cR_R, cN_R, cI_N, cL_N, cA_N, cJ_N, cR_N, cN_N, ↓reduceIte, Nat.reduceEqDiff, upd_at, updL_at] at h87
        have hne : mNeeds m L ch t = true := by rw [mNeeds, hfr, decide_eq_false h87]; rfl
        refine aw_iconst (v := 1) C (dec D_Mod_append rfl) (by decide) ?_
        refine aw_goto (tgt := 95) C (dec D_Mod_append rfl) (by decide) ?_
        refine aw_istore C (dec D_Mod_append rfl) (by decide) ?_
        refine aw_iload C (dec D_Mod_append rfl) rfl ?_
        refine aw_if_eq (tgt := 109) C (dec D_Mod_append rfl) (by decide) (fun h_ => absurd h_ (show ¬ (1 : Int32) = (0 : Int32) by decide)) (fun _ => ?_)
        refine aw_aload_n (i := 0) C (dec D_Mod_append rfl) rfl rfl ?_
        show AW E _ _ _ _ 103 _ _
        refine aw_cv C ci_Mod_176 [] (c_Mod_leastFree _ _ _ _ _ _ L (hL.of rfl)) (dec D_Mod_append rfl) rcM rfl fpP (Nat.le_of_ble_eq_true rfl) (by decide) ⟨by decide, by decide⟩ (fun v w2 hp => ?_) (fun _ _ h => by cases h.1)
        obtain ⟨hv, rfl⟩ := hp
        cases hv
        refine aw_goto (tgt := 110) C (dec D_Mod_append rfl) (by decide) ?_
        refine aw_istore C (dec D_Mod_append rfl) (by decide) ?_
        refine AW.ls [(0, .ref (a 30 0)), (1, .int (nI t)), (2, .int b), (3, .int (nI (64 * t + L t / 8))), (4, .int 0), (5, .int 1), (6, .int (mLeast (smI m 0 0) L 61 40))] rfl ?_
        refine aw_iload C (dec D_Mod_append rfl) rfl ?_
        refine aw_if_eq (tgt := 129) C (dec D_Mod_append rfl) (by decide) (fun h_ => absurd h_ (show ¬ (1 : Int32) = (0 : Int32) by decide)) (fun _ => ?_)
        refine aw_iload C (dec D_Mod_append rfl) rfl ?_
        refine aw_if_ge (tgt := 129) C (dec D_Mod_append rfl) (by decide) (fun h119 => ?_) (fun h119 => ?_)
        · try simp only [mI_I, mL_I, mA_I, mJ_I, mI_L, mL_L, mA_L, mJ_L, mI_A, mL_A, mA_A, mJ_A, mI_J, mL_J, mA_J, mJ_J, cI_I, cL_I, cA_I, cJ_I, cR_I, cN_I, cI_L, cL_L, cA_L, cJ_L, cR_L, cN_L, cI_A, cL_A, cA_A, cJ_A, cR_A, cN_A, cI_J, cL_J, cA_J, cJ_J, cR_J, cN_J, cI_R, cL_R, cA_R, cJ_R, cR_R, cN_R, cI_N, cL_N, cA_N, cJ_N, cR_N, cN_N, ↓reduceIte, Nat.reduceEqDiff, upd_at, updL_at] at h119
          refine aw_iload C (dec D_Mod_append rfl) rfl ?_
          refine aw_if_eq (tgt := 149) C (dec D_Mod_append rfl) (by decide) (fun _ => ?_) (fun h_ => absurd (show (0 : Int32) = (0 : Int32) by decide) h_)
          refine aw_aload_n (i := 0) C (dec D_Mod_append_1 rfl) rfl rfl ?_
          refine aw_iload_n (i := 1) C (dec D_Mod_append_1 rfl) rfl rfl ?_
          refine aw_aload_n (i := 0) C (dec D_Mod_append_1 rfl) rfl rfl ?_
          refine gf_Mod_32 C (dec D_Mod_append_1 rfl) ?_
          refine aw_iload_n (i := 3) C (dec D_Mod_append_1 rfl) rfl rfl ?_
          refine al_M5 C (64 * t + L t / 8) (dec D_Mod_append_1 rfl) (ix_of (by omega)) ?_
          rw [ech]
          refine aw_cv C ci_Mod_179 [_, _] (c_Mod_load _ _ _ _ _ _ t (ch t (L t / 8)) ht (by omega) (hW t ht)) (dec D_Mod_append_1 rfl) rcM rfl (fpW Fw) (Nat.le_of_ble_eq_true rfl) (by decide) ⟨by decide, by decide⟩ (fun v w2 hp => ?_) (fun _ _ h => by cases h.1)
          obtain ⟨hv, rfl⟩ := hp
          cases hv
          have hn : ¬ (mNeeds m L ch t = true ∧ mLeast (smI m 0 0) L 61 40 < 0) := fun z => i_ge0 h119 z.2
          exact k160 _ (by rw [mApp1, hfr]; rfl) hn _ _ _ (by rw [hne]; rfl) (fun z => rfl)
        · try simp only [mI_I, mL_I, mA_I, mJ_I, mI_L, mL_L, mA_L, mJ_L, mI_A, mL_A, mA_A, mJ_A, mI_J, mL_J, mA_J, mJ_J, cI_I, cL_I, cA_I, cJ_I, cR_I, cN_I, cI_L, cL_L, cA_L, cJ_L, cR_L, cN_L, cI_A, cL_A, cA_A, cJ_A, cR_A, cN_A, cI_J, cL_J, cA_J, cJ_J, cR_J, cN_J, cI_R, cL_R, cA_R, cJ_R, cR_R, cN_R, cI_N, cL_N, cA_N, cJ_N, cR_N, cN_N, ↓reduceIte, Nat.reduceEqDiff, upd_at, updL_at] at h119
          refine aw_aload_n (i := 0) C (dec D_Mod_append rfl) rfl rfl ?_
          refine aw_iconst (v := 3) C (dec D_Mod_append rfl) (by decide) ?_
          refine pf_Mod_71 C Fw (dec D_Mod_append rfl) ?_
          refine aw_iconst (v := 0) C (dec D_Mod_append rfl) (by decide) ?_
          refine aw_ret_i C r (dec D_Mod_append rfl) rfl (by decide) (by decide) ?_
          exact ⟨by rw [mAppendR, if_pos hg, ec, if_pos ⟨hne, i_nle h119⟩], by rw [mAppend, if_pos hg, ec, if_pos ⟨hne, i_nle h119⟩]⟩
    · try simp only [mI_I, mL_I, mA_I, mJ_I, mI_L, mL_L, mA_L, mJ_L, mI_A, mL_A, mA_A, mJ_A, mI_J, mL_J, mA_J, mJ_J, cI_I, cL_I, cA_I, cJ_I, cR_I, cN_I, cI_L, cL_L, cA_L, cJ_L, cR_L, cN_L, cI_A, cL_A, cA_A, cJ_A, cR_A, cN_A, cI_J, cL_J, cA_J, cJ_J, cR_J, cN_J, cI_R, cL_R, cA_R, cJ_R, cR_R, cN_R, cI_N, cL_N, cA_N, cJ_N, cR_N, cN_N, ↓reduceIte, Nat.reduceEqDiff, upd_at, updL_at] at h61
      have hfr : mFresh L t = true := decide_eq_true ((nI_eq (a := L t % 8) (b := 0) (by omega) (by omega)).mp h61)
      have hne : mNeeds m L ch t = true := by rw [mNeeds, hfr]; rfl
      refine aw_iconst (v := 1) C (dec D_Mod_append rfl) (by decide) ?_
      refine aw_goto (tgt := 69) C (dec D_Mod_append rfl) (by decide) ?_
      show AW E _ _ _ _ 69 _ _
      refine aw_istore C (dec D_Mod_append rfl) (by decide) ?_
      refine AW.ls [(0, .ref (a 30 0)), (1, .int (nI t)), (2, .int b), (3, .int (nI (64 * t + L t / 8))), (4, .int 1)] rfl ?_
      refine aw_iload C (dec D_Mod_append rfl) rfl ?_
      refine aw_if_ne (tgt := 90) C (dec D_Mod_append rfl) (by decide) (fun _ => ?_) (fun h_ => absurd h_ (show ¬ (1 : Int32) = (0 : Int32) by decide))
      refine aw_iconst (v := 1) C (dec D_Mod_append rfl) (by decide) ?_
      refine aw_goto (tgt := 95) C (dec D_Mod_append rfl) (by decide) ?_
      refine aw_istore C (dec D_Mod_append rfl) (by decide) ?_
      refine aw_iload C (dec D_Mod_append rfl) rfl ?_
      refine aw_if_eq (tgt := 109) C (dec D_Mod_append rfl) (by decide) (fun h_ => absurd h_ (show ¬ (1 : Int32) = (0 : Int32) by decide)) (fun _ => ?_)
      refine aw_aload_n (i := 0) C (dec D_Mod_append rfl) rfl rfl ?_
      refine aw_cv C ci_Mod_176 [] (c_Mod_leastFree _ _ _ _ _ _ L (hL.of rfl)) (dec D_Mod_append rfl) rcM rfl fpP (Nat.le_of_ble_eq_true rfl) (by decide) ⟨by decide, by decide⟩ (fun v w2 hp => ?_) (fun _ _ h => by cases h.1)
      obtain ⟨hv, rfl⟩ := hp
      cases hv
      refine aw_goto (tgt := 110) C (dec D_Mod_append rfl) (by decide) ?_
      refine aw_istore C (dec D_Mod_append rfl) (by decide) ?_
      refine AW.ls [(0, .ref (a 30 0)), (1, .int (nI t)), (2, .int b), (3, .int (nI (64 * t + L t / 8))), (4, .int 1), (5, .int 1), (6, .int (mLeast (smI m 0 0) L 61 40))] rfl ?_
      refine aw_iload C (dec D_Mod_append rfl) rfl ?_
      refine aw_if_eq (tgt := 129) C (dec D_Mod_append rfl) (by decide) (fun h_ => absurd h_ (show ¬ (1 : Int32) = (0 : Int32) by decide)) (fun _ => ?_)
      refine aw_iload C (dec D_Mod_append rfl) rfl ?_
      refine aw_if_ge (tgt := 129) C (dec D_Mod_append rfl) (by decide) (fun h119 => ?_) (fun h119 => ?_)
      · try simp only [mI_I, mL_I, mA_I, mJ_I, mI_L, mL_L, mA_L, mJ_L, mI_A, mL_A, mA_A, mJ_A, mI_J, mL_J, mA_J, mJ_J, cI_I, cL_I, cA_I, cJ_I, cR_I, cN_I, cI_L, cL_L, cA_L, cJ_L, cR_L, cN_L, cI_A, cL_A, cA_A, cJ_A, cR_A, cN_A, cI_J, cL_J, cA_J, cJ_J, cR_J, cN_J, cI_R, cL_R, cA_R, cJ_R, cR_R, cN_R, cI_N, cL_N, cA_N, cJ_N, cR_N, cN_N, ↓reduceIte, Nat.reduceEqDiff, upd_at, updL_at] at h119
        refine aw_iload C (dec D_Mod_append rfl) rfl ?_
        refine aw_if_eq (tgt := 149) C (dec D_Mod_append rfl) (by decide) (fun h_ => absurd h_ (show ¬ (1 : Int32) = (0 : Int32) by decide)) (fun _ => ?_)
        refine aw_aload_n (i := 0) C (dec D_Mod_append rfl) rfl rfl ?_
        refine aw_iload_n (i := 1) C (dec D_Mod_append rfl) rfl rfl ?_
        refine aw_cv C ci_Mod_133 [_] (c_Mod_save _ _ _ _ _ _ t ht (hW t ht)) (dec D_Mod_append rfl) rcM rfl (fpW Fw) (Nat.le_of_ble_eq_true rfl) (by decide) ⟨by decide, by decide⟩ (fun v w2 hp => ?_) (fun _ _ h => by cases h.1)
        obtain ⟨hv, rfl⟩ := hp
        cases hv
        refine aw_aload_n (i := 0) C (dec D_Mod_append rfl) rfl rfl ?_
        refine gf_Mod_38 C (dec D_Mod_append rfl) ?_
        refine aw_iload_n (i := 1) C (dec D_Mod_append rfl) rfl rfl ?_
        refine aw_lconst (v := 0) C (dec D_Mod_append rfl) (by decide) ?_
        show AW E _ _ _ _ 145 _ _
        refine as_M7 C Fw t (dec D_Mod_append_1 rfl) (ix_of ht) ?_
        refine aw_goto (tgt := 160) C (dec D_Mod_append_1 rfl) (by decide) ?_
        have hn : ¬ (mNeeds m L ch t = true ∧ mLeast (smI m 0 0) L 61 40 < 0) := fun z => i_ge0 h119 z.2
        exact k160 _ (by rw [mApp1, hfr]; rfl) hn _ _ _ (by rw [hne]; rfl) (fun z => rfl)
      · try simp only [mI_I, mL_I, mA_I, mJ_I, mI_L, mL_L, mA_L, mJ_L, mI_A, mL_A, mA_A, mJ_A, mI_J, mL_J, mA_J, mJ_J, cI_I, cL_I, cA_I, cJ_I, cR_I, cN_I, cI_L, cL_L, cA_L, cJ_L, cR_L, cN_L, cI_A, cL_A, cA_A, cJ_A, cR_A, cN_A, cI_J, cL_J, cA_J, cJ_J, cR_J, cN_J, cI_R, cL_R, cA_R, cJ_R, cR_R, cN_R, cI_N, cL_N, cA_N, cJ_N, cR_N, cN_N, ↓reduceIte, Nat.reduceEqDiff, upd_at, updL_at] at h119
        refine aw_aload_n (i := 0) C (dec D_Mod_append rfl) rfl rfl ?_
        refine aw_iconst (v := 3) C (dec D_Mod_append rfl) (by decide) ?_
        refine pf_Mod_71 C Fw (dec D_Mod_append rfl) ?_
        refine aw_iconst (v := 0) C (dec D_Mod_append rfl) (by decide) ?_
        refine aw_ret_i C r (dec D_Mod_append rfl) rfl (by decide) (by decide) ?_
        exact ⟨by rw [mAppendR, if_pos hg, ec, if_pos ⟨hne, i_nle h119⟩], by rw [mAppend, if_pos hg, ec, if_pos ⟨hne, i_nle h119⟩]⟩
  refine aw_aload_n (i := 0) C (dec D_Mod_append rfl) rfl rfl ?_
  refine aw_aload_n (i := 0) C (dec D_Mod_append rfl) rfl rfl ?_
  refine aw_cv C ci_Mod_160 [] (c_Mod_isReady _ _ _ _ _ _) (dec D_Mod_append rfl) rcM rfl fpP (Nat.le_of_ble_eq_true rfl) (by decide) ⟨by decide, by decide⟩ (fun v w2 hp => ?_) (fun _ _ h => by cases h.1)
  obtain ⟨hv, rfl⟩ := hp
  cases hv
  refine aw_if_ne (tgt := 12) C (dec D_Mod_append rfl) (by decide) (fun h5 => ?_) (fun h5 => ?_)
  · try simp only [mI_I, mL_I, mA_I, mJ_I, mI_L, mL_L, mA_L, mJ_L, mI_A, mL_A, mA_A, mJ_A, mI_J, mL_J, mA_J, mJ_J, cI_I, cL_I, cA_I, cJ_I, cR_I, cN_I, cI_L, cL_L, cA_L, cJ_L, cR_L, cN_L, cI_A, cL_A, cA_A, cJ_A, cR_A, cN_A, cI_J, cL_J, cA_J, cJ_J, cR_J, cN_J, cI_R, cL_R, cA_R, cJ_R, cR_R, cN_R, cI_N, cL_N, cA_N, cJ_N, cR_N, cN_N, ↓reduceIte, Nat.reduceEqDiff, upd_at, updL_at] at h5
    refine aw_aload_n (i := 0) C (dec D_Mod_append rfl) rfl rfl ?_
    refine aw_iload_n (i := 1) C (dec D_Mod_append rfl) rfl rfl ?_
    refine aw_cv C ci_Mod_166 [_] (c_Mod_isFile _ _ _ _ _ _ _) (dec D_Mod_append rfl) rcM rfl fpP (Nat.le_of_ble_eq_true rfl) (by decide) ⟨by decide, by decide⟩ (fun v w2 hp => ?_) (fun _ _ h => by cases h.1)
    obtain ⟨hv, rfl⟩ := hp
    cases hv
    refine aw_if_ne (tgt := 24) C (dec D_Mod_append rfl) (by decide) (fun h17 => ?_) (fun h17 => ?_)
    · try simp only [mI_I, mL_I, mA_I, mJ_I, mI_L, mL_L, mA_L, mJ_L, mI_A, mL_A, mA_A, mJ_A, mI_J, mL_J, mA_J, mJ_J, cI_I, cL_I, cA_I, cJ_I, cR_I, cN_I, cI_L, cL_L, cA_L, cJ_L, cR_L, cN_L, cI_A, cL_A, cA_A, cJ_A, cR_A, cN_A, cI_J, cL_J, cA_J, cJ_J, cR_J, cN_J, cI_R, cL_R, cA_R, cJ_R, cR_R, cN_R, cI_N, cL_N, cA_N, cJ_N, cR_N, cN_N, ↓reduceIte, Nat.reduceEqDiff, upd_at, updL_at] at h17
      refine aw_iconst (v := 0) C (dec D_Mod_append rfl) (by decide) ?_
      refine pf_Mod_71 C Fw (dec D_Mod_append rfl) ?_
      refine aw_aload_n (i := 0) C (dec D_Mod_append rfl) rfl rfl ?_
      refine gf_Mod_71 C (dec D_Mod_append rfl) ?_
      refine aw_if_le (tgt := 37) C (dec D_Mod_append rfl) (by decide) (fun _ => ?_) (fun h_ => absurd (show (0 : Int32) ≤ (0 : Int32) by decide) h_)
      obtain ⟨t, ht, ex, hnm⟩ := mIsFile_rng h17
      exact k37 t ht ex (by simp [mGate, h5, h17])
    · try simp only [mI_I, mL_I, mA_I, mJ_I, mI_L, mL_L, mA_L, mJ_L, mI_A, mL_A, mA_A, mJ_A, mI_J, mL_J, mA_J, mJ_J, cI_I, cL_I, cA_I, cJ_I, cR_I, cN_I, cI_L, cL_L, cA_L, cJ_L, cR_L, cN_L, cI_A, cL_A, cA_A, cJ_A, cR_A, cN_A, cI_J, cL_J, cA_J, cJ_J, cR_J, cN_J, cI_R, cL_R, cA_R, cJ_R, cR_R, cN_R, cI_N, cL_N, cA_N, cJ_N, cR_N, cN_N, ↓reduceIte, Nat.reduceEqDiff, upd_at, updL_at] at h17
      refine aw_iconst (v := 2) C (dec D_Mod_append rfl) (by decide) ?_
      refine aw_goto (tgt := 25) C (dec D_Mod_append rfl) (by decide) ?_
      refine pf_Mod_71 C Fw (dec D_Mod_append rfl) ?_
      show AW E _ _ _ _ 28 _ _
      refine aw_aload_n (i := 0) C (dec D_Mod_append rfl) rfl rfl ?_
      refine gf_Mod_71 C (dec D_Mod_append rfl) ?_
      refine aw_if_le (tgt := 37) C (dec D_Mod_append rfl) (by decide) (fun h_ => absurd h_ (show ¬ (2 : Int32) ≤ (0 : Int32) by decide)) (fun _ => ?_)
      refine aw_iconst (v := 0) C (dec D_Mod_append rfl) (by decide) ?_
      refine aw_ret_i C r (dec D_Mod_append rfl) rfl (by decide) (by decide) ?_
      refine ⟨?_, ?_⟩ <;> simp [mAppend, mAppendR, mGate, h5, h17]
  · try simp only [mI_I, mL_I, mA_I, mJ_I, mI_L, mL_L, mA_L, mJ_L, mI_A, mL_A, mA_A, mJ_A, mI_J, mL_J, mA_J, mJ_J, cI_I, cL_I, cA_I, cJ_I, cR_I, cN_I, cI_L, cL_L, cA_L, cJ_L, cR_L, cN_L, cI_A, cL_A, cA_A, cJ_A, cR_A, cN_A, cI_J, cL_J, cA_J, cJ_J, cR_J, cN_J, cI_R, cL_R, cA_R, cJ_R, cR_R, cN_R, cI_N, cL_N, cA_N, cJ_N, cR_N, cN_N, ↓reduceIte, Nat.reduceEqDiff, upd_at, updL_at] at h5
    refine aw_iconst (v := 1) C (dec D_Mod_append rfl) (by decide) ?_
    refine aw_goto (tgt := 25) C (dec D_Mod_append rfl) (by decide) ?_
    refine pf_Mod_71 C Fw (dec D_Mod_append rfl) ?_
    refine aw_aload_n (i := 0) C (dec D_Mod_append rfl) rfl rfl ?_
    refine gf_Mod_71 C (dec D_Mod_append rfl) ?_
    refine aw_if_le (tgt := 37) C (dec D_Mod_append rfl) (by decide) (fun h_ => absurd h_ (show ¬ (1 : Int32) ≤ (0 : Int32) by decide)) (fun _ => ?_)
    refine aw_iconst (v := 0) C (dec D_Mod_append rfl) (by decide) ?_
    refine aw_ret_i C r (dec D_Mod_append rfl) rfl (by decide) (by decide) ?_
    refine ⟨?_, ?_⟩ <;> simp [mAppend, mAppendR, mGate, h5]
