/-! the component: windows, and the small methods of files and directory; printed by tools/m46.py -/
theorem c_Win_empty (l : Launch) (G : GG) (a : AD) (c : CC) (m : MM) (o : OO) (j : Nat) (hj : j < cN c 17 0) : CT l G y_Win_empty (.code y_Win_empty b_Win_empty 1 none) 0 0 0 (Fyes G) (wld G a c m o) [.ref (a 18 j)] (fun r w2 => r = .inl none ∧ w2 = wld G a (sI (sI c 13 j (-1)) 14 j 0) m o) := by
  refine CT.of (by decide) (Nat.le_of_ble_eq_true rfl) rfl ?_
  intro E hl hG hF C r hw hex hnm
  subst hl; subst hG
  have Fw : Cw E := fun a h => by rw [hF]; exact h
  refine aw_aload_n (i := 0) C (dec D_Win_empty rfl) rfl rfl ?_
  refine aw_iconst (v := (-1)) C (dec D_Win_empty rfl) (by decide) ?_
  refine pf_Win_9 C Fw hj (dec D_Win_empty rfl) ?_
  refine aw_aload_n (i := 0) C (dec D_Win_empty rfl) rfl rfl ?_
  refine aw_iconst (v := 0) C (dec D_Win_empty rfl) (by decide) ?_
  refine pf_Win_15 C Fw (by exact hj) bz0 (dec D_Win_empty rfl) ?_
  refine aw_ret_v C r (dec D_Win_empty rfl) (by decide) (by decide) ?_
  exact ⟨rfl, rfl⟩
theorem c_Win_put (l : Launch) (G : GG) (a : AD) (c : CC) (m : MM) (o : OO) (j : Nat) (s b : Int32) (hj : j < cN c 17 0) : CT l G y_Win_put (.code y_Win_put b_Win_put 3 none) 0 0 0 (Fyes G) (wld G a c m o) [.ref (a 18 j), .int s, .int b] (fun r w2 => r = .inl none ∧ w2 = wld G a (sI (sL c 1 j (putR (cL c 1 j) (8 * s) b)) 14 j 1) m o) := by
  refine CT.of (by decide) (Nat.le_of_ble_eq_true rfl) rfl ?_
  intro E hl hG hF C r hw hex hnm
  subst hl; subst hG
  have Fw : Cw E := fun a h => by rw [hF]; exact h
  refine aw_aload_n (i := 0) C (dec D_Win_put rfl) rfl rfl ?_
  refine aw_aload_n (i := 0) C (dec D_Win_put rfl) rfl rfl ?_
  refine gf_Win_19 C hj (dec D_Win_put rfl) ?_
  refine aw_ldc2 (v := 255) C (dec D_Win_put rfl) (List.mem_of_getElem? (i := 606) (by decide +kernel)) ?_
  refine aw_bipush (v := 8) C (dec D_Win_put rfl) (by decide) ?_
  refine aw_iload_n (i := 1) C (dec D_Win_put rfl) rfl rfl ?_
  refine aw_imul C (dec D_Win_put rfl) ?_
  refine aw_lshl C (dec D_Win_put rfl) ?_
  refine aw_ldc2 (v := (-1)) C (dec D_Win_put rfl) (List.mem_of_getElem? (i := 607) (by decide +kernel)) ?_
  refine aw_lxor C (dec D_Win_put rfl) ?_
  refine aw_land C (dec D_Win_put rfl) ?_
  refine aw_iload_n (i := 2) C (dec D_Win_put rfl) rfl rfl ?_
  refine aw_i2l C (dec D_Win_put rfl) ?_
  refine aw_ldc2 (v := 255) C (dec D_Win_put rfl) (List.mem_of_getElem? (i := 606) (by decide +kernel)) ?_
  refine aw_land C (dec D_Win_put rfl) ?_
  refine aw_bipush (v := 8) C (dec D_Win_put rfl) (by decide) ?_
  refine aw_iload_n (i := 1) C (dec D_Win_put rfl) rfl rfl ?_
  refine aw_imul C (dec D_Win_put rfl) ?_
  refine aw_lshl C (dec D_Win_put rfl) ?_
  refine aw_lor C (dec D_Win_put rfl) ?_
  refine pf_Win_19 C Fw hj (dec D_Win_put rfl) ?_
  refine aw_aload_n (i := 0) C (dec D_Win_put rfl) rfl rfl ?_
  refine aw_iconst (v := 1) C (dec D_Win_put rfl) (by decide) ?_
  refine pf_Win_15 C Fw (by exact hj) bz1 (dec D_Win_put rfl) ?_
  refine aw_ret_v C r (dec D_Win_put rfl) (by decide) (by decide) ?_
  exact ⟨rfl, rfl⟩
theorem c_Win_savei (l : Launch) (G : GG) (a : AD) (c : CC) (m : MM) (o : OO) (j : Nat) (hj : j < cN c 17 0) (hz : cI c 14 j = 0) : CT l G y_Win_save (.code y_Win_save b_Win_save 2 none) 0 0 0 Fno (wld G a c m o) [.ref (a 18 j), .ref (a 2 0)] (fun r w2 => r = .inl none ∧ w2 = wld G a c m o) := by
  refine CT.of (by decide) (Nat.le_of_ble_eq_true rfl) rfl ?_
  intro E hl hG hF C r hw hex hnm
  subst hl; subst hG
  refine aw_aload_n (i := 0) C (dec D_Win_save rfl) rfl rfl ?_
  refine gf_Win_15 C hj (dec D_Win_save rfl) ?_
  refine aw_if_ne (tgt := 8) C (dec D_Win_save rfl) (by decide) (fun h4 => ?_) (fun h4 => ?_)
  · try simp only [mI_I, mL_I, mA_I, mJ_I, mI_L, mL_L, mA_L, mJ_L, mI_A, mL_A, mA_A, mJ_A, mI_J, mL_J, mA_J, mJ_J, cI_I, cL_I, cA_I, cJ_I, cR_I, cN_I, cI_L, cL_L, cA_L, cJ_L, cR_L, cN_L, cI_A, cL_A, cA_A, cJ_A, cR_A, cN_A, cI_J, cL_J, cA_J, cJ_J, cR_J, cN_J, cI_R, cL_R, cA_R, cJ_R, cR_R, cN_R, cI_N, cL_N, cA_N, cJ_N, cR_N, cN_N, ↓reduceIte, Nat.reduceEqDiff, upd_at, updL_at] at h4
    exact absurd hz h4
  · try simp only [mI_I, mL_I, mA_I, mJ_I, mI_L, mL_L, mA_L, mJ_L, mI_A, mL_A, mA_A, mJ_A, mI_J, mL_J, mA_J, mJ_J, cI_I, cL_I, cA_I, cJ_I, cR_I, cN_I, cI_L, cL_L, cA_L, cJ_L, cR_L, cN_L, cI_A, cL_A, cA_A, cJ_A, cR_A, cN_A, cI_J, cL_J, cA_J, cJ_J, cR_J, cN_J, cI_R, cL_R, cA_R, cJ_R, cR_R, cN_R, cI_N, cL_N, cA_N, cJ_N, cR_N, cN_N, ↓reduceIte, Nat.reduceEqDiff, upd_at, updL_at] at h4
    refine aw_ret_v C r (dec D_Win_save rfl) (by decide) (by decide) ?_
    exact ⟨rfl, rfl⟩
theorem c_Win_save1 (l : Launch) (G : GG) (a : AD) (c : CC) (m : MM) (o : OO) (c' : CC) (j : Nat) (hj : j < cN c 17 0) (hj' : j < cN c' 17 0) (hz : ¬ cI c 14 j = 0) (hct : CT l G y_Ctl_write (.code y_Ctl_write b_Ctl_write 4 none) 2 0 0 (Fyes G) (wld G a c m o) [.ref (a 2 0), .int (cI c 13 j), .long (cL c 1 j)] (fun r w2 => r = .inl none ∧ w2 = wld G a c' m o)) : CT l G y_Win_save (.code y_Win_save b_Win_save 2 none) 3 0 0 (Fyes G) (wld G a c m o) [.ref (a 18 j), .ref (a 2 0)] (fun r w2 => r = .inl none ∧ w2 = wld G a (sI c' 14 j 0) m o) := by
  refine CT.of (by decide) (Nat.le_of_ble_eq_true rfl) rfl ?_
  intro E hl hG hF C r hw hex hnm
  subst hl; subst hG
  have Fw : Cw E := fun a h => by rw [hF]; exact h
  refine aw_aload_n (i := 0) C (dec D_Win_save rfl) rfl rfl ?_
  refine gf_Win_15 C hj (dec D_Win_save rfl) ?_
  refine aw_if_ne (tgt := 8) C (dec D_Win_save rfl) (by decide) (fun h4 => ?_) (fun h4 => ?_)
  · try simp only [mI_I, mL_I, mA_I, mJ_I, mI_L, mL_L, mA_L, mJ_L, mI_A, mL_A, mA_A, mJ_A, mI_J, mL_J, mA_J, mJ_J, cI_I, cL_I, cA_I, cJ_I, cR_I, cN_I, cI_L, cL_L, cA_L, cJ_L, cR_L, cN_L, cI_A, cL_A, cA_A, cJ_A, cR_A, cN_A, cI_J, cL_J, cA_J, cJ_J, cR_J, cN_J, cI_R, cL_R, cA_R, cJ_R, cR_R, cN_R, cI_N, cL_N, cA_N, cJ_N, cR_N, cN_N, ↓reduceIte, Nat.reduceEqDiff, upd_at, updL_at] at h4
    refine aw_aload_n (i := 1) C (dec D_Win_save rfl) rfl rfl ?_
    refine aw_aload_n (i := 0) C (dec D_Win_save rfl) rfl rfl ?_
    refine gf_Win_9 C hj (dec D_Win_save rfl) ?_
    refine aw_aload_n (i := 0) C (dec D_Win_save rfl) rfl rfl ?_
    refine gf_Win_19 C hj (dec D_Win_save rfl) ?_
    refine aw_cv C ci_Win_23 [_, _] hct (dec D_Win_save rfl) rcT rfl (fpW Fw) (Nat.le_of_ble_eq_true rfl) (by decide) ⟨by decide, by decide⟩ (fun v w2 hp => ?_) (fun _ _ h => by cases h.1)
    obtain ⟨hv, rfl⟩ := hp
    cases hv
    refine aw_aload_n (i := 0) C (dec D_Win_save rfl) rfl rfl ?_
    refine aw_iconst (v := 0) C (dec D_Win_save rfl) (by decide) ?_
    refine pf_Win_15 C Fw hj' bz0 (dec D_Win_save rfl) ?_
    refine aw_ret_v C r (dec D_Win_save rfl) (by decide) (by decide) ?_
    exact ⟨rfl, rfl⟩
  · try simp only [mI_I, mL_I, mA_I, mJ_I, mI_L, mL_L, mA_L, mJ_L, mI_A, mL_A, mA_A, mJ_A, mI_J, mL_J, mA_J, mJ_J, cI_I, cL_I, cA_I, cJ_I, cR_I, cN_I, cI_L, cL_L, cA_L, cJ_L, cR_L, cN_L, cI_A, cL_A, cA_A, cJ_A, cR_A, cN_A, cI_J, cL_J, cA_J, cJ_J, cR_J, cN_J, cI_R, cL_R, cA_R, cJ_R, cR_R, cN_R, cI_N, cL_N, cA_N, cJ_N, cR_N, cN_N, ↓reduceIte, Nat.reduceEqDiff, upd_at, updL_at] at h4
    exact absurd h4 hz
theorem c_Win_save0 (l : Launch) (G : GG) (a : AD) (c : CC) (m : MM) (o : OO) (j : Nat) (hj : j < cN c 17 0) (hz : ¬ cI c 14 j = 0) (hx : cI c 3 0 = 0) : CT l G y_Win_save (.code y_Win_save b_Win_save 2 none) 9 1 6 (Fyes G) (wld G a c m o) [.ref (a 18 j), .ref (a 2 0)] (fun r w2 => r = .inr 0 ∧ w2 = wld G a (cOff c) m o) := by
  refine CT.of (by decide) (Nat.le_of_ble_eq_true rfl) rfl ?_
  intro E hl hG hF C r hw hex hnm
  subst hl; subst hG
  have Fw : Cw E := fun a h => by rw [hF]; exact h
  refine aw_aload_n (i := 0) C (dec D_Win_save rfl) rfl rfl ?_
  refine gf_Win_15 C hj (dec D_Win_save rfl) ?_
  refine aw_if_ne (tgt := 8) C (dec D_Win_save rfl) (by decide) (fun h4 => ?_) (fun h4 => ?_)
  · try simp only [mI_I, mL_I, mA_I, mJ_I, mI_L, mL_L, mA_L, mJ_L, mI_A, mL_A, mA_A, mJ_A, mI_J, mL_J, mA_J, mJ_J, cI_I, cL_I, cA_I, cJ_I, cR_I, cN_I, cI_L, cL_L, cA_L, cJ_L, cR_L, cN_L, cI_A, cL_A, cA_A, cJ_A, cR_A, cN_A, cI_J, cL_J, cA_J, cJ_J, cR_J, cN_J, cI_R, cL_R, cA_R, cJ_R, cR_R, cN_R, cI_N, cL_N, cA_N, cJ_N, cR_N, cN_N, ↓reduceIte, Nat.reduceEqDiff, upd_at, updL_at] at h4
    refine aw_aload_n (i := 1) C (dec D_Win_save rfl) rfl rfl ?_
    refine aw_aload_n (i := 0) C (dec D_Win_save rfl) rfl rfl ?_
    refine gf_Win_9 C hj (dec D_Win_save rfl) ?_
    refine aw_aload_n (i := 0) C (dec D_Win_save rfl) rfl rfl ?_
    refine gf_Win_19 C hj (dec D_Win_save rfl) ?_
    refine aw_cv C ci_Win_23 [_, _] (c_Ctl_write0 _ _ _ _ _ _ _ _ hx) (dec D_Win_save rfl) rcT rfl (fpW Fw) (Nat.le_of_ble_eq_true rfl) (by decide) ⟨by decide, by decide⟩ (fun v w2 hp => by cases hp.1) (fun n w2 hp => ?_)
    obtain ⟨hv, rfl⟩ := hp
    cases hv
    exact at_leave C r hex (by decide) (by decide) (⟨rfl, rfl⟩)
  · try simp only [mI_I, mL_I, mA_I, mJ_I, mI_L, mL_L, mA_L, mJ_L, mI_A, mL_A, mA_A, mJ_A, mI_J, mL_J, mA_J, mJ_J, cI_I, cL_I, cA_I, cJ_I, cR_I, cN_I, cI_L, cL_L, cA_L, cJ_L, cR_L, cN_L, cI_A, cL_A, cA_A, cJ_A, cR_A, cN_A, cI_J, cL_J, cA_J, cJ_J, cR_J, cN_J, cI_R, cL_R, cA_R, cJ_R, cR_R, cN_R, cI_N, cL_N, cA_N, cJ_N, cR_N, cN_N, ↓reduceIte, Nat.reduceEqDiff, upd_at, updL_at] at h4
    exact absurd h4 hz
theorem c_Win_loadi (l : Launch) (G : GG) (a : AD) (c : CC) (m : MM) (o : OO) (j : Nat) (x : Int32) (hj : j < cN c 17 0) (hz : cI c 13 j = x) : CT l G y_Win_load (.code y_Win_load b_Win_load 3 none) 0 0 0 Fno (wld G a c m o) [.ref (a 18 j), .ref (a 2 0), .int x] (fun r w2 => r = .inl none ∧ w2 = wld G a c m o) := by
  refine CT.of (by decide) (Nat.le_of_ble_eq_true rfl) rfl ?_
  intro E hl hG hF C r hw hex hnm
  subst hl; subst hG
  refine aw_aload_n (i := 0) C (dec D_Win_load rfl) rfl rfl ?_
  refine gf_Win_9 C hj (dec D_Win_load rfl) ?_
  refine aw_iload_n (i := 2) C (dec D_Win_load rfl) rfl rfl ?_
  refine aw_icmp_ne (tgt := 9) C (dec D_Win_load rfl) (by decide) (fun h5 => ?_) (fun h5 => ?_)
  · try simp only [mI_I, mL_I, mA_I, mJ_I, mI_L, mL_L, mA_L, mJ_L, mI_A, mL_A, mA_A, mJ_A, mI_J, mL_J, mA_J, mJ_J, cI_I, cL_I, cA_I, cJ_I, cR_I, cN_I, cI_L, cL_L, cA_L, cJ_L, cR_L, cN_L, cI_A, cL_A, cA_A, cJ_A, cR_A, cN_A, cI_J, cL_J, cA_J, cJ_J, cR_J, cN_J, cI_R, cL_R, cA_R, cJ_R, cR_R, cN_R, cI_N, cL_N, cA_N, cJ_N, cR_N, cN_N, ↓reduceIte, Nat.reduceEqDiff, upd_at, updL_at] at h5
    exact absurd hz h5
  · try simp only [mI_I, mL_I, mA_I, mJ_I, mI_L, mL_L, mA_L, mJ_L, mI_A, mL_A, mA_A, mJ_A, mI_J, mL_J, mA_J, mJ_J, cI_I, cL_I, cA_I, cJ_I, cR_I, cN_I, cI_L, cL_L, cA_L, cJ_L, cR_L, cN_L, cI_A, cL_A, cA_A, cJ_A, cR_A, cN_A, cI_J, cL_J, cA_J, cJ_J, cR_J, cN_J, cI_R, cL_R, cA_R, cJ_R, cR_R, cN_R, cI_N, cL_N, cA_N, cJ_N, cR_N, cN_N, ↓reduceIte, Nat.reduceEqDiff, upd_at, updL_at] at h5
    refine aw_ret_v C r (dec D_Win_load rfl) (by decide) (by decide) ?_
    exact ⟨rfl, rfl⟩
theorem c_Win_load1 (l : Launch) (G : GG) (a : AD) (c : CC) (m : MM) (o : OO) (c1 c2 : CC) (j : Nat) (x : Int32) (v : Int64) (hj : j < cN c 17 0) (hj2 : j < cN c2 17 0) (hz : ¬ cI c 13 j = x) (hj1 : j < cN c1 17 0) (hsv : CT l G y_Win_save (.code y_Win_save b_Win_save 2 none) 3 0 0 (Fyes G) (wld G a c m o) [.ref (a 18 j), .ref (a 2 0)] (fun r w2 => r = .inl none ∧ w2 = wld G a c1 m o)) (hrd : CT l G y_Ctl_read (.code y_Ctl_read b_Ctl_read 2 (some .long)) 2 0 0 (Fyes G) (wld G a c1 m o) [.ref (a 2 0), .int x] (fun r w2 => r = .inl (some (.long v)) ∧ w2 = wld G a c2 m o)) : CT l G y_Win_load (.code y_Win_load b_Win_load 3 none) 4 0 0 (Fyes G) (wld G a c m o) [.ref (a 18 j), .ref (a 2 0), .int x] (fun r w2 => r = .inl none ∧ w2 = wld G a (sI (sL c2 1 j v) 13 j x) m o) := by
  refine CT.of (by decide) (Nat.le_of_ble_eq_true rfl) rfl ?_
  intro E hl hG hF C r hw hex hnm
  subst hl; subst hG
  have Fw : Cw E := fun a h => by rw [hF]; exact h
  refine aw_aload_n (i := 0) C (dec D_Win_load rfl) rfl rfl ?_
  refine gf_Win_9 C hj (dec D_Win_load rfl) ?_
  refine aw_iload_n (i := 2) C (dec D_Win_load rfl) rfl rfl ?_
  refine aw_icmp_ne (tgt := 9) C (dec D_Win_load rfl) (by decide) (fun h5 => ?_) (fun h5 => ?_)
  · try simp only [mI_I, mL_I, mA_I, mJ_I, mI_L, mL_L, mA_L, mJ_L, mI_A, mL_A, mA_A, mJ_A, mI_J, mL_J, mA_J, mJ_J, cI_I, cL_I, cA_I, cJ_I, cR_I, cN_I, cI_L, cL_L, cA_L, cJ_L, cR_L, cN_L, cI_A, cL_A, cA_A, cJ_A, cR_A, cN_A, cI_J, cL_J, cA_J, cJ_J, cR_J, cN_J, cI_R, cL_R, cA_R, cJ_R, cR_R, cN_R, cI_N, cL_N, cA_N, cJ_N, cR_N, cN_N, ↓reduceIte, Nat.reduceEqDiff, upd_at, updL_at] at h5
    refine aw_aload_n (i := 0) C (dec D_Win_load rfl) rfl rfl ?_
    refine aw_aload_n (i := 1) C (dec D_Win_load rfl) rfl rfl ?_
    refine aw_cv C ci_Win_29 [_] hsv (dec D_Win_load rfl) (rcW hj) rfl (fpW Fw) (Nat.le_of_ble_eq_true rfl) (by decide) ⟨by decide, by decide⟩ (fun v w2 hp => ?_) (fun _ _ h => by cases h.1)
    obtain ⟨hv, rfl⟩ := hp
    cases hv
    refine aw_aload_n (i := 0) C (dec D_Win_load rfl) rfl rfl ?_
    refine aw_aload_n (i := 1) C (dec D_Win_load rfl) rfl rfl ?_
    refine aw_iload_n (i := 2) C (dec D_Win_load rfl) rfl rfl ?_
    refine aw_cv C ci_Win_33 [_] hrd (dec D_Win_load rfl) rcT rfl (fpW Fw) (Nat.le_of_ble_eq_true rfl) (by decide) ⟨by decide, by decide⟩ (fun v w2 hp => ?_) (fun _ _ h => by cases h.1)
    obtain ⟨hv, rfl⟩ := hp
    cases hv
    refine pf_Win_19 C Fw hj2 (dec D_Win_load rfl) ?_
    refine aw_aload_n (i := 0) C (dec D_Win_load rfl) rfl rfl ?_
    refine aw_iload_n (i := 2) C (dec D_Win_load rfl) rfl rfl ?_
    refine pf_Win_9 C Fw (by exact hj2) (dec D_Win_load rfl) ?_
    refine aw_ret_v C r (dec D_Win_load rfl) (by decide) (by decide) ?_
    exact ⟨rfl, rfl⟩
  · try simp only [mI_I, mL_I, mA_I, mJ_I, mI_L, mL_L, mA_L, mJ_L, mI_A, mL_A, mA_A, mJ_A, mI_J, mL_J, mA_J, mJ_J, cI_I, cL_I, cA_I, cJ_I, cR_I, cN_I, cI_L, cL_L, cA_L, cJ_L, cR_L, cN_L, cI_A, cL_A, cA_A, cJ_A, cR_A, cN_A, cI_J, cL_J, cA_J, cJ_J, cR_J, cN_J, cI_R, cL_R, cA_R, cJ_R, cR_R, cN_R, cI_N, cL_N, cA_N, cJ_N, cR_N, cN_N, ↓reduceIte, Nat.reduceEqDiff, upd_at, updL_at] at h5
    exact absurd h5 hz
theorem c_Win_loads (l : Launch) (G : GG) (a : AD) (c : CC) (m : MM) (o : OO) (j : Nat) (x : Int32) (hj : j < cN c 17 0) (hz : ¬ cI c 13 j = x) (hq : ¬ cI c 14 j = 0) (hx : cI c 3 0 = 0) : CT l G y_Win_load (.code y_Win_load b_Win_load 3 none) 10 1 6 (Fyes G) (wld G a c m o) [.ref (a 18 j), .ref (a 2 0), .int x] (fun r w2 => r = .inr 0 ∧ w2 = wld G a (cOff c) m o) := by
  refine CT.of (by decide) (Nat.le_of_ble_eq_true rfl) rfl ?_
  intro E hl hG hF C r hw hex hnm
  subst hl; subst hG
  have Fw : Cw E := fun a h => by rw [hF]; exact h
  refine aw_aload_n (i := 0) C (dec D_Win_load rfl) rfl rfl ?_
  refine gf_Win_9 C hj (dec D_Win_load rfl) ?_
  refine aw_iload_n (i := 2) C (dec D_Win_load rfl) rfl rfl ?_
  refine aw_icmp_ne (tgt := 9) C (dec D_Win_load rfl) (by decide) (fun h5 => ?_) (fun h5 => ?_)
  · try simp only [mI_I, mL_I, mA_I, mJ_I, mI_L, mL_L, mA_L, mJ_L, mI_A, mL_A, mA_A, mJ_A, mI_J, mL_J, mA_J, mJ_J, cI_I, cL_I, cA_I, cJ_I, cR_I, cN_I, cI_L, cL_L, cA_L, cJ_L, cR_L, cN_L, cI_A, cL_A, cA_A, cJ_A, cR_A, cN_A, cI_J, cL_J, cA_J, cJ_J, cR_J, cN_J, cI_R, cL_R, cA_R, cJ_R, cR_R, cN_R, cI_N, cL_N, cA_N, cJ_N, cR_N, cN_N, ↓reduceIte, Nat.reduceEqDiff, upd_at, updL_at] at h5
    refine aw_aload_n (i := 0) C (dec D_Win_load rfl) rfl rfl ?_
    refine aw_aload_n (i := 1) C (dec D_Win_load rfl) rfl rfl ?_
    refine aw_cv C ci_Win_29 [_] (c_Win_save0 _ _ _ _ _ _ j hj hq hx) (dec D_Win_load rfl) (rcW hj) rfl (fpW Fw) (Nat.le_of_ble_eq_true rfl) (by decide) ⟨by decide, by decide⟩ (fun v w2 hp => by cases hp.1) (fun n w2 hp => ?_)
    obtain ⟨hv, rfl⟩ := hp
    cases hv
    exact at_leave C r hex (by decide) (by decide) (⟨rfl, rfl⟩)
  · try simp only [mI_I, mL_I, mA_I, mJ_I, mI_L, mL_L, mA_L, mJ_L, mI_A, mL_A, mA_A, mJ_A, mI_J, mL_J, mA_J, mJ_J, cI_I, cL_I, cA_I, cJ_I, cR_I, cN_I, cI_L, cL_L, cA_L, cJ_L, cR_L, cN_L, cI_A, cL_A, cA_A, cJ_A, cR_A, cN_A, cI_J, cL_J, cA_J, cJ_J, cR_J, cN_J, cI_R, cL_R, cA_R, cJ_R, cR_R, cN_R, cI_N, cL_N, cA_N, cJ_N, cR_N, cN_N, ↓reduceIte, Nat.reduceEqDiff, upd_at, updL_at] at h5
    exact absurd h5 hz
theorem c_Win_load0 (l : Launch) (G : GG) (a : AD) (c : CC) (m : MM) (o : OO) (c1 : CC) (j : Nat) (x : Int32) (hj : j < cN c 17 0) (hz : ¬ cI c 13 j = x) (hx : cI c1 3 0 = 0) (hsv : CT l G y_Win_save (.code y_Win_save b_Win_save 2 none) 3 0 0 (Fyes G) (wld G a c m o) [.ref (a 18 j), .ref (a 2 0)] (fun r w2 => r = .inl none ∧ w2 = wld G a c1 m o)) : CT l G y_Win_load (.code y_Win_load b_Win_load 3 none) 9 1 6 (Fyes G) (wld G a c m o) [.ref (a 18 j), .ref (a 2 0), .int x] (fun r w2 => r = .inr 0 ∧ w2 = wld G a (cOff c1) m o) := by
  refine CT.of (by decide) (Nat.le_of_ble_eq_true rfl) rfl ?_
  intro E hl hG hF C r hw hex hnm
  subst hl; subst hG
  have Fw : Cw E := fun a h => by rw [hF]; exact h
  refine aw_aload_n (i := 0) C (dec D_Win_load rfl) rfl rfl ?_
  refine gf_Win_9 C hj (dec D_Win_load rfl) ?_
  refine aw_iload_n (i := 2) C (dec D_Win_load rfl) rfl rfl ?_
  refine aw_icmp_ne (tgt := 9) C (dec D_Win_load rfl) (by decide) (fun h5 => ?_) (fun h5 => ?_)
  · try simp only [mI_I, mL_I, mA_I, mJ_I, mI_L, mL_L, mA_L, mJ_L, mI_A, mL_A, mA_A, mJ_A, mI_J, mL_J, mA_J, mJ_J, cI_I, cL_I, cA_I, cJ_I, cR_I, cN_I, cI_L, cL_L, cA_L, cJ_L, cR_L, cN_L, cI_A, cL_A, cA_A, cJ_A, cR_A, cN_A, cI_J, cL_J, cA_J, cJ_J, cR_J, cN_J, cI_R, cL_R, cA_R, cJ_R, cR_R, cN_R, cI_N, cL_N, cA_N, cJ_N, cR_N, cN_N, ↓reduceIte, Nat.reduceEqDiff, upd_at, updL_at] at h5
    refine aw_aload_n (i := 0) C (dec D_Win_load rfl) rfl rfl ?_
    refine aw_aload_n (i := 1) C (dec D_Win_load rfl) rfl rfl ?_
    refine aw_cv C ci_Win_29 [_] hsv (dec D_Win_load rfl) (rcW hj) rfl (fpW Fw) (Nat.le_of_ble_eq_true rfl) (by decide) ⟨by decide, by decide⟩ (fun v w2 hp => ?_) (fun _ _ h => by cases h.1)
    obtain ⟨hv, rfl⟩ := hp
    cases hv
    refine aw_aload_n (i := 0) C (dec D_Win_load rfl) rfl rfl ?_
    refine aw_aload_n (i := 1) C (dec D_Win_load rfl) rfl rfl ?_
    refine aw_iload_n (i := 2) C (dec D_Win_load rfl) rfl rfl ?_
    refine aw_cv C ci_Win_33 [_] (c_Ctl_read0 _ _ _ _ _ _ _ hx) (dec D_Win_load rfl) rcT rfl (fpW Fw) (Nat.le_of_ble_eq_true rfl) (by decide) ⟨by decide, by decide⟩ (fun v w2 hp => by cases hp.1) (fun n w2 hp => ?_)
    obtain ⟨hv, rfl⟩ := hp
    cases hv
    exact at_leave C r hex (by decide) (by decide) (⟨rfl, rfl⟩)
  · try simp only [mI_I, mL_I, mA_I, mJ_I, mI_L, mL_L, mA_L, mJ_L, mI_A, mL_A, mA_A, mJ_A, mI_J, mL_J, mA_J, mJ_J, cI_I, cL_I, cA_I, cJ_I, cR_I, cN_I, cI_L, cL_L, cA_L, cJ_L, cR_L, cN_L, cI_A, cL_A, cA_A, cJ_A, cR_A, cN_A, cI_J, cL_J, cA_J, cJ_J, cR_J, cN_J, cI_R, cL_R, cA_R, cJ_R, cR_R, cN_R, cI_N, cL_N, cA_N, cJ_N, cR_N, cN_N, ↓reduceIte, Nat.reduceEqDiff, upd_at, updL_at] at h5
    exact absurd h5 hz
theorem pgE2 {x : Int32} {n : Nat} (e : x = nI n) (h : n ≤ 488) : (x + 8 - 1) / 8 = nI (pg n) := by
  rw [e, show (8 : Int32) = nI 8 from rfl, nI_add, show (1 : Int32) = nI 1 from rfl, pk_sub (by omega), pk_div (by omega) (by omega) (by omega), show n + 8 - 1 = n + 7 by omega]; rfl
def cFree (c : CC) (p : Nat) : Bool := decide (39 < p) && decide (cA c 8 0 p = 0) && decide (cA c 9 0 p = 0)
def cLeast (c : CC) : Nat → Nat → Int32
  | 0, _ => -1
  | n + 1, k => if cFree c k = true then nI k else cLeast c n (k + 1)
def cHoldN (c : CC) : Nat → CC
  | 0 => c
  | t + 1 => sA (cHoldN c t) 9 0 (upd (cA (cHoldN c t) 9 0) t (cA (cHoldN c t) 8 0 t))
theorem c_File_pages (l : Launch) (G : GG) (a : AD) (c : CC) (m : MM) (o : OO) (j n : Nat) (hj : j < cN c 17 0) (hn : cI c 12 j = nI n ∧ n ≤ 488) : CT l G y_File_pages (.code y_File_pages b_File_pages 1 (some .int)) 0 0 0 Fno (wld G a c m o) [.ref (a 17 j)] (fun r w2 => r = .inl (some (.int (nI (pg n)))) ∧ w2 = wld G a c m o) := by
  refine CT.of (by decide) (Nat.le_of_ble_eq_true rfl) rfl ?_
  intro E hl hG hF C r hw hex hnm
  subst hl; subst hG
  refine aw_aload_n (i := 0) C (dec D_File_pages rfl) rfl rfl ?_
  refine gf_File_22 C hj (dec D_File_pages rfl) ?_
  refine aw_bipush (v := 8) C (dec D_File_pages rfl) (by decide) ?_
  refine aw_iadd C (dec D_File_pages rfl) ?_
  refine aw_iconst (v := 1) C (dec D_File_pages rfl) (by decide) ?_
  refine aw_isub C (dec D_File_pages rfl) ?_
  refine aw_bipush (v := 8) C (dec D_File_pages rfl) (by decide) ?_
  refine aw_idiv C (dec D_File_pages rfl) (by decide) ?_
  refine aw_ret_i C r (dec D_File_pages rfl) rfl (by decide) (by decide) ?_
  exact ⟨by rw [pgE2 hn.1 hn.2], rfl⟩
theorem c_Dir_isFree (l : Launch) (G : GG) (a : AD) (c : CC) (m : MM) (o : OO) (p : Nat) (hp1 : p < 101) : CT l G y_Dir_isFree (.code y_Dir_isFree b_Dir_isFree 2 (some .boolean)) 0 0 0 Fno (wld G a c m o) [.ref (a 3 0), .int (nI p)] (fun r w2 => r = .inl (some (.int (bI (cFree c p)))) ∧ w2 = wld G a c m o) := by
  refine CT.of (by decide) (Nat.le_of_ble_eq_true rfl) rfl ?_
  intro E hl hG hF C r hw hex hnm
  subst hl; subst hG
  refine aw_iload_n (i := 1) C (dec D_Dir_isFree rfl) rfl rfl ?_
  refine aw_bipush (v := 40) C (dec D_Dir_isFree rfl) (by decide) ?_
  refine aw_icmp_lt (tgt := 28) C (dec D_Dir_isFree rfl) (by decide) (fun h3 => ?_) (fun h3 => ?_)
  · try simp only [mI_I, mL_I, mA_I, mJ_I, mI_L, mL_L, mA_L, mJ_L, mI_A, mL_A, mA_A, mJ_A, mI_J, mL_J, mA_J, mJ_J, cI_I, cL_I, cA_I, cJ_I, cR_I, cN_I, cI_L, cL_L, cA_L, cJ_L, cR_L, cN_L, cI_A, cL_A, cA_A, cJ_A, cR_A, cN_A, cI_J, cL_J, cA_J, cJ_J, cR_J, cN_J, cI_R, cL_R, cA_R, cJ_R, cR_R, cN_R, cI_N, cL_N, cA_N, cJ_N, cR_N, cN_N, ↓reduceIte, Nat.reduceEqDiff, upd_at, updL_at] at h3
    refine aw_iconst (v := 0) C (dec D_Dir_isFree rfl) (by decide) ?_
    refine aw_ret_i C r (dec D_Dir_isFree rfl) rfl (by decide) (by decide) ?_
    refine ⟨?_, rfl⟩
    have e3 : ¬ 39 < p := by have := (nI_ltI (a := p) (b := 40) (by omega) (by omega)).mp h3; omega
    simp [cFree, bI, e3]
  · try simp only [mI_I, mL_I, mA_I, mJ_I, mI_L, mL_L, mA_L, mJ_L, mI_A, mL_A, mA_A, mJ_A, mI_J, mL_J, mA_J, mJ_J, cI_I, cL_I, cA_I, cJ_I, cR_I, cN_I, cI_L, cL_L, cA_L, cJ_L, cR_L, cN_L, cI_A, cL_A, cA_A, cJ_A, cR_A, cN_A, cI_J, cL_J, cA_J, cJ_J, cR_J, cN_J, cI_R, cL_R, cA_R, cJ_R, cR_R, cN_R, cI_N, cL_N, cA_N, cJ_N, cR_N, cN_N, ↓reduceIte, Nat.reduceEqDiff, upd_at, updL_at] at h3
    refine aw_aload_n (i := 0) C (dec D_Dir_isFree rfl) rfl rfl ?_
    refine gf_Dir_21 C (dec D_Dir_isFree rfl) ?_
    refine aw_iload_n (i := 1) C (dec D_Dir_isFree rfl) rfl rfl ?_
    refine al_C8 C p (dec D_Dir_isFree rfl) (ix_of hp1) ?_
    refine aw_if_ne (tgt := 28) C (dec D_Dir_isFree rfl) (by decide) (fun h12 => ?_) (fun h12 => ?_)
    · try simp only [mI_I, mL_I, mA_I, mJ_I, mI_L, mL_L, mA_L, mJ_L, mI_A, mL_A, mA_A, mJ_A, mI_J, mL_J, mA_J, mJ_J, cI_I, cL_I, cA_I, cJ_I, cR_I, cN_I, cI_L, cL_L, cA_L, cJ_L, cR_L, cN_L, cI_A, cL_A, cA_A, cJ_A, cR_A, cN_A, cI_J, cL_J, cA_J, cJ_J, cR_J, cN_J, cI_R, cL_R, cA_R, cJ_R, cR_R, cN_R, cI_N, cL_N, cA_N, cJ_N, cR_N, cN_N, ↓reduceIte, Nat.reduceEqDiff, upd_at, updL_at] at h12
      refine aw_iconst (v := 0) C (dec D_Dir_isFree rfl) (by decide) ?_
      refine aw_ret_i C r (dec D_Dir_isFree rfl) rfl (by decide) (by decide) ?_
      refine ⟨?_, rfl⟩
      have e3 : 39 < p := by have := mt (nI_ltI (a := p) (b := 40) (by omega) (by omega)).mpr h3; omega
      simp [cFree, bI, e3, h12]
    · try simp only [mI_I, mL_I, mA_I, mJ_I, mI_L, mL_L, mA_L, mJ_L, mI_A, mL_A, mA_A, mJ_A, mI_J, mL_J, mA_J, mJ_J, cI_I, cL_I, cA_I, cJ_I, cR_I, cN_I, cI_L, cL_L, cA_L, cJ_L, cR_L, cN_L, cI_A, cL_A, cA_A, cJ_A, cR_A, cN_A, cI_J, cL_J, cA_J, cJ_J, cR_J, cN_J, cI_R, cL_R, cA_R, cJ_R, cR_R, cN_R, cI_N, cL_N, cA_N, cJ_N, cR_N, cN_N, ↓reduceIte, Nat.reduceEqDiff, upd_at, updL_at] at h12
      refine aw_aload_n (i := 0) C (dec D_Dir_isFree rfl) rfl rfl ?_
      refine gf_Dir_25 C (dec D_Dir_isFree rfl) ?_
      refine aw_iload_n (i := 1) C (dec D_Dir_isFree rfl) rfl rfl ?_
      refine al_C9 C p (dec D_Dir_isFree rfl) (ix_of hp1) ?_
      refine aw_if_ne (tgt := 28) C (dec D_Dir_isFree rfl) (by decide) (fun h21 => ?_) (fun h21 => ?_)
      · try simp only [mI_I, mL_I, mA_I, mJ_I, mI_L, mL_L, mA_L, mJ_L, mI_A, mL_A, mA_A, mJ_A, mI_J, mL_J, mA_J, mJ_J, cI_I, cL_I, cA_I, cJ_I, cR_I, cN_I, cI_L, cL_L, cA_L, cJ_L, cR_L, cN_L, cI_A, cL_A, cA_A, cJ_A, cR_A, cN_A, cI_J, cL_J, cA_J, cJ_J, cR_J, cN_J, cI_R, cL_R, cA_R, cJ_R, cR_R, cN_R, cI_N, cL_N, cA_N, cJ_N, cR_N, cN_N, ↓reduceIte, Nat.reduceEqDiff, upd_at, updL_at] at h21
        refine aw_iconst (v := 0) C (dec D_Dir_isFree rfl) (by decide) ?_
        refine aw_ret_i C r (dec D_Dir_isFree rfl) rfl (by decide) (by decide) ?_
        refine ⟨?_, rfl⟩
        have e3 : 39 < p := by have := mt (nI_ltI (a := p) (b := 40) (by omega) (by omega)).mpr h3; omega
        simp [cFree, bI, e3, h12, h21]
      · try simp only [mI_I, mL_I, mA_I, mJ_I, mI_L, mL_L, mA_L, mJ_L, mI_A, mL_A, mA_A, mJ_A, mI_J, mL_J, mA_J, mJ_J, cI_I, cL_I, cA_I, cJ_I, cR_I, cN_I, cI_L, cL_L, cA_L, cJ_L, cR_L, cN_L, cI_A, cL_A, cA_A, cJ_A, cR_A, cN_A, cI_J, cL_J, cA_J, cJ_J, cR_J, cN_J, cI_R, cL_R, cA_R, cJ_R, cR_R, cN_R, cI_N, cL_N, cA_N, cJ_N, cR_N, cN_N, ↓reduceIte, Nat.reduceEqDiff, upd_at, updL_at] at h21
        refine aw_iconst (v := 1) C (dec D_Dir_isFree rfl) (by decide) ?_
        refine aw_goto (tgt := 29) C (dec D_Dir_isFree rfl) (by decide) ?_
        refine aw_ret_i C r (dec D_Dir_isFree rfl) rfl (by decide) (by decide) ?_
        refine ⟨?_, rfl⟩
        have e3 : 39 < p := by have := mt (nI_ltI (a := p) (b := 40) (by omega) (by omega)).mpr h3; omega
        simp [cFree, bI, e3, h12, h21]
theorem c_Dir_free (l : Launch) (G : GG) (a : AD) (c : CC) (m : MM) (o : OO)   : CT l G y_Dir_free (.code y_Dir_free b_Dir_free 2 (some .int)) 1 0 0 Fno (wld G a c m o) [.ref (a 3 0)] (fun r w2 => r = .inl (some (.int (cLeast c 61 40))) ∧ w2 = wld G a c m o) := by
  refine CT.of (by decide) (Nat.le_of_ble_eq_true rfl) rfl ?_
  intro E hl hG hF C r hw hex hnm
  subst hl; subst hG
  have k23 : ∀ t, t ≤ 101 → (if t < 101 then nI t else -1) = cLeast c 61 40 → AW E true 0 0 (wld (eG E) a c m o) 23 [(0, .ref (a 3 0)), (1, .int (nI t))] [] := by
    intro t ht hx
    refine aw_iload_n (i := 1) C (dec D_Dir_free rfl) rfl rfl ?_
    refine aw_bipush (v := 101) C (dec D_Dir_free rfl) (by decide) ?_
    refine aw_icmp_ge (tgt := 33) C (dec D_Dir_free rfl) (by decide) (fun h26 => ?_) (fun h26 => ?_)
    · try simp only [mI_I, mL_I, mA_I, mJ_I, mI_L, mL_L, mA_L, mJ_L, mI_A, mL_A, mA_A, mJ_A, mI_J, mL_J, mA_J, mJ_J, cI_I, cL_I, cA_I, cJ_I, cR_I, cN_I, cI_L, cL_L, cA_L, cJ_L, cR_L, cN_L, cI_A, cL_A, cA_A, cJ_A, cR_A, cN_A, cI_J, cL_J, cA_J, cJ_J, cR_J, cN_J, cI_R, cL_R, cA_R, cJ_R, cR_R, cN_R, cI_N, cL_N, cA_N, cJ_N, cR_N, cN_N, ↓reduceIte, Nat.reduceEqDiff, upd_at, updL_at] at h26
      rw [if_neg (by have := ix_ge (N := 101) h26; omega)] at hx
      refine aw_iconst (v := (-1)) C (dec D_Dir_free rfl) (by decide) ?_
      refine aw_ret_i C r (dec D_Dir_free rfl) rfl (by decide) (by decide) ?_
      exact ⟨by rw [← hx], rfl⟩
    · try simp only [mI_I, mL_I, mA_I, mJ_I, mI_L, mL_L, mA_L, mJ_L, mI_A, mL_A, mA_A, mJ_A, mI_J, mL_J, mA_J, mJ_J, cI_I, cL_I, cA_I, cJ_I, cR_I, cN_I, cI_L, cL_L, cA_L, cJ_L, cR_L, cN_L, cI_A, cL_A, cA_A, cJ_A, cR_A, cN_A, cI_J, cL_J, cA_J, cJ_J, cR_J, cN_J, cI_R, cL_R, cA_R, cJ_R, cR_R, cN_R, cI_N, cL_N, cA_N, cJ_N, cR_N, cN_N, ↓reduceIte, Nat.reduceEqDiff, upd_at, updL_at] at h26
      rw [if_pos (ix_lt (N := 101) h26)] at hx
      refine aw_iload_n (i := 1) C (dec D_Dir_free rfl) rfl rfl ?_
      refine aw_goto (tgt := 34) C (dec D_Dir_free rfl) (by decide) ?_
      refine aw_ret_i C r (dec D_Dir_free rfl) rfl (by decide) (by decide) ?_
      exact ⟨by rw [← hx], rfl⟩
  have lp : ∀ (n t : Nat) , 101 - t < n → t ≤ 101 → 40 ≤ t → cLeast c 61 40 = cLeast c (101 - t) t → AW E true 0 0 (wld (eG E) a c m o) 3 [(0, .ref (a 3 0)), (1, .int (nI t))] [] := by
    intro n
    induction n with
    | zero => intro t  h1 h2 h0 hx; omega
    | succ n ih =>
      intro t  h1t h2t h0t hx
      refine aw_iload_n (i := 1) C (dec D_Dir_free rfl) rfl rfl ?_
      refine aw_bipush (v := 101) C (dec D_Dir_free rfl) (by decide) ?_
      refine aw_icmp_ge (tgt := 23) C (dec D_Dir_free rfl) (by decide) (fun hb => ?_) (fun hb => ?_)
      · try simp only [mI_I, mL_I, mA_I, mJ_I, mI_L, mL_L, mA_L, mJ_L, mI_A, mL_A, mA_A, mJ_A, mI_J, mL_J, mA_J, mJ_J, cI_I, cL_I, cA_I, cJ_I, cR_I, cN_I, cI_L, cL_L, cA_L, cJ_L, cR_L, cN_L, cI_A, cL_A, cA_A, cJ_A, cR_A, cN_A, cI_J, cL_J, cA_J, cJ_J, cR_J, cN_J, cI_R, cL_R, cA_R, cJ_R, cR_R, cN_R, cI_N, cL_N, cA_N, cJ_N, cR_N, cN_N, ↓reduceIte, Nat.reduceEqDiff, upd_at, updL_at] at hb
        have e9 : t = 101 := by have := ix_ge (N := 101) hb; omega
        subst e9
        exact k23 101 (by omega) (by rw [if_neg (by omega), hx]; rfl)
      · try simp only [mI_I, mL_I, mA_I, mJ_I, mI_L, mL_L, mA_L, mJ_L, mI_A, mL_A, mA_A, mJ_A, mI_J, mL_J, mA_J, mJ_J, cI_I, cL_I, cA_I, cJ_I, cR_I, cN_I, cI_L, cL_L, cA_L, cJ_L, cR_L, cN_L, cI_A, cL_A, cA_A, cJ_A, cR_A, cN_A, cI_J, cL_J, cA_J, cJ_J, cR_J, cN_J, cI_R, cL_R, cA_R, cJ_R, cR_R, cN_R, cI_N, cL_N, cA_N, cJ_N, cR_N, cN_N, ↓reduceIte, Nat.reduceEqDiff, upd_at, updL_at] at hb
        have htt : t < 101 := ix_lt (N := 101) hb
        refine aw_aload_n (i := 0) C (dec D_Dir_free rfl) rfl rfl ?_
        refine aw_iload_n (i := 1) C (dec D_Dir_free rfl) rfl rfl ?_
        refine aw_cv C ci_Dir_28 [_] (c_Dir_isFree _ _ _ _ _ _ t (by omega)) (dec D_Dir_free rfl) rcD rfl fpP (Nat.le_of_ble_eq_true rfl) (by decide) ⟨by decide, by decide⟩ (fun v w2 hp => ?_) (fun _ _ h => by cases h.1)
        obtain ⟨hv, rfl⟩ := hp
        cases hv
        refine aw_if_ne (tgt := 23) C (dec D_Dir_free rfl) (by decide) (fun h14 => ?_) (fun h14 => ?_)
        · try simp only [mI_I, mL_I, mA_I, mJ_I, mI_L, mL_L, mA_L, mJ_L, mI_A, mL_A, mA_A, mJ_A, mI_J, mL_J, mA_J, mJ_J, cI_I, cL_I, cA_I, cJ_I, cR_I, cN_I, cI_L, cL_L, cA_L, cJ_L, cR_L, cN_L, cI_A, cL_A, cA_A, cJ_A, cR_A, cN_A, cI_J, cL_J, cA_J, cJ_J, cR_J, cN_J, cI_R, cL_R, cA_R, cJ_R, cR_R, cN_R, cI_N, cL_N, cA_N, cJ_N, cR_N, cN_N, ↓reduceIte, Nat.reduceEqDiff, upd_at, updL_at] at h14
          exact k23 t (by omega) (by rw [if_pos htt, hx, show 101 - t = 100 - t + 1 by omega, cLeast, if_pos (by have z := mt bI_0.mpr h14; simpa using z)])
        · try simp only [mI_I, mL_I, mA_I, mJ_I, mI_L, mL_L, mA_L, mJ_L, mI_A, mL_A, mA_A, mJ_A, mI_J, mL_J, mA_J, mJ_J, cI_I, cL_I, cA_I, cJ_I, cR_I, cN_I, cI_L, cL_L, cA_L, cJ_L, cR_L, cN_L, cI_A, cL_A, cA_A, cJ_A, cR_A, cN_A, cI_J, cL_J, cA_J, cJ_J, cR_J, cN_J, cI_R, cL_R, cA_R, cJ_R, cR_R, cN_R, cI_N, cL_N, cA_N, cJ_N, cR_N, cN_N, ↓reduceIte, Nat.reduceEqDiff, upd_at, updL_at] at h14
          refine aw_iinc C (dec D_Dir_free rfl) rfl (nI_inc t) (by decide) ?_
          refine aw_goto (tgt := 3) C (dec D_Dir_free rfl) (by decide) ?_
          exact ih (t + 1) (by omega) (by omega) (by omega) (by rw [hx, show 101 - t = 100 - t + 1 by omega, cLeast, if_neg (by rw [bI_0.mp h14]; decide), show 100 - t = 101 - (t + 1) by omega])
  refine aw_bipush (v := 40) C (dec D_Dir_free rfl) (by decide) ?_
  refine aw_istore_n (i := 1) C (dec D_Dir_free rfl) rfl (by decide) ?_
  exact lp 62 40 (by omega) (by omega) (by omega) rfl
theorem c_Dir_pageOf (l : Launch) (G : GG) (a : AD) (c : CC) (m : MM) (o : OO) (j i : Nat) (k : Nat → Nat) (hj : j < cN c 17 0) (hi : i < 101) (h0 : cI c 11 j = nI (k 0)) (hk : ∀ t, t < i → k t < 101 ∧ cA c 7 0 (k t) = nI (k (t + 1))) : CT l G y_Dir_pageOf (.code y_Dir_pageOf b_Dir_pageOf 5 (some .int)) 0 0 0 Fno (wld G a c m o) [.ref (a 3 0), .ref (a 17 j), .int (nI i)] (fun r w2 => r = .inl (some (.int (nI (k i)))) ∧ w2 = wld G a c m o) := by
  refine CT.of (by decide) (Nat.le_of_ble_eq_true rfl) rfl ?_
  intro E hl hG hF C r hw hex hnm
  subst hl; subst hG
  have lp : ∀ (n t : Nat) , i - t < n → t ≤ i → AW E true 0 0 (wld (eG E) a c m o) 8 [(0, .ref (a 3 0)), (1, .ref (a 17 j)), (2, .int (nI i)), (3, .int (nI (k t))), (4, .int (nI t))] [] := by
    intro n
    induction n with
    | zero => intro t  h1 h2; omega
    | succ n ih =>
      intro t  h1t h2t
      refine aw_iload C (dec D_Dir_pageOf rfl) rfl ?_
      refine aw_iload_n (i := 2) C (dec D_Dir_pageOf rfl) rfl rfl ?_
      refine aw_icmp_ge (tgt := 27) C (dec D_Dir_pageOf rfl) (by decide) (fun hb => ?_) (fun hb => ?_)
      · try simp only [mI_I, mL_I, mA_I, mJ_I, mI_L, mL_L, mA_L, mJ_L, mI_A, mL_A, mA_A, mJ_A, mI_J, mL_J, mA_J, mJ_J, cI_I, cL_I, cA_I, cJ_I, cR_I, cN_I, cI_L, cL_L, cA_L, cJ_L, cR_L, cN_L, cI_A, cL_A, cA_A, cJ_A, cR_A, cN_A, cI_J, cL_J, cA_J, cJ_J, cR_J, cN_J, cI_R, cL_R, cA_R, cJ_R, cR_R, cN_R, cI_N, cL_N, cA_N, cJ_N, cR_N, cN_N, ↓reduceIte, Nat.reduceEqDiff, upd_at, updL_at] at hb
        have e9 : t = i := by have := ix_ge (N := i) hb; omega
        subst e9
        refine aw_iload_n (i := 3) C (dec D_Dir_pageOf rfl) rfl rfl ?_
        refine aw_ret_i C r (dec D_Dir_pageOf rfl) rfl (by decide) (by decide) ?_
        exact ⟨rfl, rfl⟩
      · try simp only [mI_I, mL_I, mA_I, mJ_I, mI_L, mL_L, mA_L, mJ_L, mI_A, mL_A, mA_A, mJ_A, mI_J, mL_J, mA_J, mJ_J, cI_I, cL_I, cA_I, cJ_I, cR_I, cN_I, cI_L, cL_L, cA_L, cJ_L, cR_L, cN_L, cI_A, cL_A, cA_A, cJ_A, cR_A, cN_A, cI_J, cL_J, cA_J, cJ_J, cR_J, cN_J, cI_R, cL_R, cA_R, cJ_R, cR_R, cN_R, cI_N, cL_N, cA_N, cJ_N, cR_N, cN_N, ↓reduceIte, Nat.reduceEqDiff, upd_at, updL_at] at hb
        have htt : t < i := ix_lt (N := i) hb
        refine aw_aload_n (i := 0) C (dec D_Dir_pageOf rfl) rfl rfl ?_
        refine gf_Dir_17 C (dec D_Dir_pageOf rfl) ?_
        refine aw_iload_n (i := 3) C (dec D_Dir_pageOf rfl) rfl rfl ?_
        refine al_C7 C (k t) (dec D_Dir_pageOf rfl) (ix_of (hk t htt).1) ?_
        rw [(hk t htt).2]
        refine aw_istore_n (i := 3) C (dec D_Dir_pageOf rfl) rfl (by decide) ?_
        refine aw_iinc C (dec D_Dir_pageOf rfl) rfl (nI_inc t) (by decide) ?_
        refine aw_goto (tgt := 8) C (dec D_Dir_pageOf rfl) (by decide) ?_
        refine AW.ls [(0, .ref (a 3 0)), (1, .ref (a 17 j)), (2, .int (nI i)), (3, .int (nI (k (t + 1)))), (4, .int (nI (t + 1)))] rfl ?_
        exact ih (t + 1) (by omega) (by omega)
  refine aw_aload_n (i := 1) C (dec D_Dir_pageOf rfl) rfl rfl ?_
  refine gf_Dir_32 C hj (dec D_Dir_pageOf rfl) ?_
  rw [h0]
  refine aw_istore_n (i := 3) C (dec D_Dir_pageOf rfl) rfl (by decide) ?_
  refine aw_iconst (v := 0) C (dec D_Dir_pageOf rfl) (by decide) ?_
  refine aw_istore C (dec D_Dir_pageOf rfl) (by decide) ?_
  refine AW.ls [(0, .ref (a 3 0)), (1, .ref (a 17 j)), (2, .int (nI i)), (3, .int (nI (k 0))), (4, .int (nI 0))] rfl ?_
  exact lp (i + 1) 0 (by omega) (by omega)
theorem c_Dir_hold (l : Launch) (G : GG) (a : AD) (c : CC) (m : MM) (o : OO)  (hu : ∀ t, t < 101 → B01 (cA c 8 0 t)) : CT l G y_Dir_hold (.code y_Dir_hold b_Dir_hold 2 none) 0 0 0 (Fyes G) (wld G a c m o) [.ref (a 3 0)] (fun r w2 => r = .inl none ∧ w2 = wld G a (cHoldN c 101) m o) := by
  refine CT.of (by decide) (Nat.le_of_ble_eq_true rfl) rfl ?_
  intro E hl hG hF C r hw hex hnm
  subst hl; subst hG
  have Fw : Cw E := fun a h => by rw [hF]; exact h
  have eu : ∀ t, cA (cHoldN c t) 8 = cA c 8 := fun t => by
    induction t with
    | zero => rfl
    | succ t ih => exact ih
  have lp : ∀ (n t : Nat) , 101 - t < n → t ≤ 101 → AW E false 0 0 (wld (eG E) a (cHoldN c t) m o) 2 [(0, .ref (a 3 0)), (1, .int (nI t))] [] := by
    intro n
    induction n with
    | zero => intro t  h1 h2; omega
    | succ n ih =>
      intro t  h1t h2t
      refine aw_iload_n (i := 1) C (dec D_Dir_hold rfl) rfl rfl ?_
      refine aw_bipush (v := 101) C (dec D_Dir_hold rfl) (by decide) ?_
      refine aw_icmp_ge (tgt := 26) C (dec D_Dir_hold rfl) (by decide) (fun hb => ?_) (fun hb => ?_)
      · try simp only [mI_I, mL_I, mA_I, mJ_I, mI_L, mL_L, mA_L, mJ_L, mI_A, mL_A, mA_A, mJ_A, mI_J, mL_J, mA_J, mJ_J, cI_I, cL_I, cA_I, cJ_I, cR_I, cN_I, cI_L, cL_L, cA_L, cJ_L, cR_L, cN_L, cI_A, cL_A, cA_A, cJ_A, cR_A, cN_A, cI_J, cL_J, cA_J, cJ_J, cR_J, cN_J, cI_R, cL_R, cA_R, cJ_R, cR_R, cN_R, cI_N, cL_N, cA_N, cJ_N, cR_N, cN_N, ↓reduceIte, Nat.reduceEqDiff, upd_at, updL_at] at hb
        have e9 : t = 101 := by have := ix_ge (N := 101) hb; omega
        subst e9
        refine aw_ret_v C r (dec D_Dir_hold rfl) (by decide) (by decide) ?_
        exact ⟨rfl, rfl⟩
      · try simp only [mI_I, mL_I, mA_I, mJ_I, mI_L, mL_L, mA_L, mJ_L, mI_A, mL_A, mA_A, mJ_A, mI_J, mL_J, mA_J, mJ_J, cI_I, cL_I, cA_I, cJ_I, cR_I, cN_I, cI_L, cL_L, cA_L, cJ_L, cR_L, cN_L, cI_A, cL_A, cA_A, cJ_A, cR_A, cN_A, cI_J, cL_J, cA_J, cJ_J, cR_J, cN_J, cI_R, cL_R, cA_R, cJ_R, cR_R, cN_R, cI_N, cL_N, cA_N, cJ_N, cR_N, cN_N, ↓reduceIte, Nat.reduceEqDiff, upd_at, updL_at] at hb
        have htt : t < 101 := ix_lt (N := 101) hb
        refine aw_aload_n (i := 0) C (dec D_Dir_hold rfl) rfl rfl ?_
        refine gf_Dir_25 C (dec D_Dir_hold rfl) ?_
        refine aw_iload_n (i := 1) C (dec D_Dir_hold rfl) rfl rfl ?_
        refine aw_aload_n (i := 0) C (dec D_Dir_hold rfl) rfl rfl ?_
        refine gf_Dir_21 C (dec D_Dir_hold rfl) ?_
        refine aw_iload_n (i := 1) C (dec D_Dir_hold rfl) rfl rfl ?_
        refine al_C8 C t (dec D_Dir_hold rfl) (ix_of htt) ?_
        refine as_C9 C Fw t (by rw [eu]; exact hu t htt) (dec D_Dir_hold rfl) (ix_of htt) ?_
        refine aw_iinc C (dec D_Dir_hold rfl) rfl (nI_inc t) (by decide) ?_
        refine aw_goto (tgt := 2) C (dec D_Dir_hold rfl) (by decide) ?_
        exact ih (t + 1) (by omega) (by omega)
  refine aw_iconst (v := 0) C (dec D_Dir_hold rfl) (by decide) ?_
  refine aw_istore_n (i := 1) C (dec D_Dir_hold rfl) rfl (by decide) ?_
  exact AW.impure (lp 102 0 (by omega) (by omega))
