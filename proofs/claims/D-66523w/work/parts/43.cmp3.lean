/-! the component: transfers; the tests of the loops; printed by tools/m43.py -/
def cSpd (c : CC) : CC := sI (sI c 4 0 1) 3 0 (if cI c 3 0 ≤ 0 then cI c 3 0 else cI c 3 0 - 1)
def cOff (c : CC) : CC := sI c 4 0 0
theorem c_Ctl_spend1 (l : Launch) (G : GG) (a : AD) (c : CC) (m : MM) (o : OO)  (hx : ¬ cI c 3 0 = 0) : CT l G y_Ctl_spend (.code y_Ctl_spend b_Ctl_spend 1 none) 1 0 0 (Fyes G) (wld G a c m o) [.ref (a 2 0)] (fun r w2 => r = .inl none ∧ w2 = wld G a (cSpd c) m o) := by
  refine CT.of (by decide) (Nat.le_of_ble_eq_true rfl) rfl ?_
  intro E hl hG hF C r hw hex hnm
  subst hl; subst hG
  have Fw : Cw E := fun a h => by rw [hF]; exact h
  refine aw_aload_n (i := 0) C (dec D_Ctl_spend rfl) rfl rfl ?_
  refine aw_aload_n (i := 0) C (dec D_Ctl_spend rfl) rfl rfl ?_
  refine gf_Ctl_9 C (dec D_Ctl_spend rfl) ?_
  refine aw_if_eq (tgt := 12) C (dec D_Ctl_spend rfl) (by decide) (fun h5 => ?_) (fun h5 => ?_)
  · try simp only [mI_I, mL_I, mA_I, mJ_I, mI_L, mL_L, mA_L, mJ_L, mI_A, mL_A, mA_A, mJ_A, mI_J, mL_J, mA_J, mJ_J, cI_I, cL_I, cA_I, cJ_I, cR_I, cN_I, cI_L, cL_L, cA_L, cJ_L, cR_L, cN_L, cI_A, cL_A, cA_A, cJ_A, cR_A, cN_A, cI_J, cL_J, cA_J, cJ_J, cR_J, cN_J, cI_R, cL_R, cA_R, cJ_R, cR_R, cN_R, cI_N, cL_N, cA_N, cJ_N, cR_N, cN_N, ↓reduceIte, Nat.reduceEqDiff, upd_at, updL_at] at h5
    exact absurd h5 hx
  · try simp only [mI_I, mL_I, mA_I, mJ_I, mI_L, mL_L, mA_L, mJ_L, mI_A, mL_A, mA_A, mJ_A, mI_J, mL_J, mA_J, mJ_J, cI_I, cL_I, cA_I, cJ_I, cR_I, cN_I, cI_L, cL_L, cA_L, cJ_L, cR_L, cN_L, cI_A, cL_A, cA_A, cJ_A, cR_A, cN_A, cI_J, cL_J, cA_J, cJ_J, cR_J, cN_J, cI_R, cL_R, cA_R, cJ_R, cR_R, cN_R, cI_N, cL_N, cA_N, cJ_N, cR_N, cN_N, ↓reduceIte, Nat.reduceEqDiff, upd_at, updL_at] at h5
    refine aw_iconst (v := 1) C (dec D_Ctl_spend rfl) (by decide) ?_
    refine aw_goto (tgt := 13) C (dec D_Ctl_spend rfl) (by decide) ?_
    refine pf_Ctl_15 C Fw bz1 (dec D_Ctl_spend rfl) ?_
    refine aw_aload_n (i := 0) C (dec D_Ctl_spend rfl) rfl rfl ?_
    refine gf_Ctl_15 C (dec D_Ctl_spend rfl) ?_
    refine aw_csn C ci_Ctl_23 [_] (c_Box_want1 _ _ _ _ _ _ _ (show ¬ (1 : Int32) = 0 by decide)) (dec D_Ctl_spend rfl) rfl fpP (Nat.le_of_ble_eq_true rfl) (by decide) ⟨by decide, by decide⟩ (fun v w2 hp => ?_) (fun _ _ h => by cases h.1)
    obtain ⟨hv, rfl⟩ := hp
    cases hv
    refine aw_aload_n (i := 0) C (dec D_Ctl_spend rfl) rfl rfl ?_
    refine aw_aload_n (i := 0) C (dec D_Ctl_spend rfl) rfl rfl ?_
    refine gf_Ctl_9 C (dec D_Ctl_spend rfl) ?_
    refine aw_if_le (tgt := 40) C (dec D_Ctl_spend rfl) (by decide) (fun h28 => ?_) (fun h28 => ?_)
    · try simp only [mI_I, mL_I, mA_I, mJ_I, mI_L, mL_L, mA_L, mJ_L, mI_A, mL_A, mA_A, mJ_A, mI_J, mL_J, mA_J, mJ_J, cI_I, cL_I, cA_I, cJ_I, cR_I, cN_I, cI_L, cL_L, cA_L, cJ_L, cR_L, cN_L, cI_A, cL_A, cA_A, cJ_A, cR_A, cN_A, cI_J, cL_J, cA_J, cJ_J, cR_J, cN_J, cI_R, cL_R, cA_R, cJ_R, cR_R, cN_R, cI_N, cL_N, cA_N, cJ_N, cR_N, cN_N, ↓reduceIte, Nat.reduceEqDiff, upd_at, updL_at] at h28
      refine aw_aload_n (i := 0) C (dec D_Ctl_spend rfl) rfl rfl ?_
      refine gf_Ctl_9 C (dec D_Ctl_spend rfl) ?_
      refine pf_Ctl_9 C Fw (dec D_Ctl_spend rfl) ?_
      refine aw_ret_v C r (dec D_Ctl_spend rfl) (by decide) (by decide) ?_
      refine ⟨?_, ?_⟩ <;> first | with_reducible rfl | (simp [mI_I, mL_I, mA_I, mJ_I, mI_L, mL_L, mA_L, mJ_L, mI_A, mL_A, mA_A, mJ_A, mI_J, mL_J, mA_J, mJ_J, cI_I, cL_I, cA_I, cJ_I, cR_I, cN_I, cI_L, cL_L, cA_L, cJ_L, cR_L, cN_L, cI_A, cL_A, cA_A, cJ_A, cR_A, cN_A, cI_J, cL_J, cA_J, cJ_J, cR_J, cN_J, cI_R, cL_R, cA_R, cJ_R, cR_R, cN_R, cI_N, cL_N, cA_N, cJ_N, cR_N, cN_N, ↓reduceIte, Nat.reduceEqDiff, upd_at, updL_at, h5, h28, cSpd]; done) | (simp [mI_I, mL_I, mA_I, mJ_I, mI_L, mL_L, mA_L, mJ_L, mI_A, mL_A, mA_A, mJ_A, mI_J, mL_J, mA_J, mJ_J, cI_I, cL_I, cA_I, cJ_I, cR_I, cN_I, cI_L, cL_L, cA_L, cJ_L, cR_L, cN_L, cI_A, cL_A, cA_A, cJ_A, cR_A, cN_A, cI_J, cL_J, cA_J, cJ_J, cR_J, cN_J, cI_R, cL_R, cA_R, cJ_R, cR_R, cN_R, cI_N, cL_N, cA_N, cJ_N, cR_N, cN_N, ↓reduceIte, Nat.reduceEqDiff, upd_at, updL_at, h5, h28, cSpd]; rfl)
    · try simp only [mI_I, mL_I, mA_I, mJ_I, mI_L, mL_L, mA_L, mJ_L, mI_A, mL_A, mA_A, mJ_A, mI_J, mL_J, mA_J, mJ_J, cI_I, cL_I, cA_I, cJ_I, cR_I, cN_I, cI_L, cL_L, cA_L, cJ_L, cR_L, cN_L, cI_A, cL_A, cA_A, cJ_A, cR_A, cN_A, cI_J, cL_J, cA_J, cJ_J, cR_J, cN_J, cI_R, cL_R, cA_R, cJ_R, cR_R, cN_R, cI_N, cL_N, cA_N, cJ_N, cR_N, cN_N, ↓reduceIte, Nat.reduceEqDiff, upd_at, updL_at] at h28
      refine aw_aload_n (i := 0) C (dec D_Ctl_spend rfl) rfl rfl ?_
      refine gf_Ctl_9 C (dec D_Ctl_spend rfl) ?_
      refine aw_iconst (v := 1) C (dec D_Ctl_spend rfl) (by decide) ?_
      refine aw_isub C (dec D_Ctl_spend rfl) ?_
      refine aw_goto (tgt := 44) C (dec D_Ctl_spend rfl) (by decide) ?_
      refine pf_Ctl_9 C Fw (dec D_Ctl_spend rfl) ?_
      refine aw_ret_v C r (dec D_Ctl_spend rfl) (by decide) (by decide) ?_
      refine ⟨?_, ?_⟩ <;> first | with_reducible rfl | (simp [mI_I, mL_I, mA_I, mJ_I, mI_L, mL_L, mA_L, mJ_L, mI_A, mL_A, mA_A, mJ_A, mI_J, mL_J, mA_J, mJ_J, cI_I, cL_I, cA_I, cJ_I, cR_I, cN_I, cI_L, cL_L, cA_L, cJ_L, cR_L, cN_L, cI_A, cL_A, cA_A, cJ_A, cR_A, cN_A, cI_J, cL_J, cA_J, cJ_J, cR_J, cN_J, cI_R, cL_R, cA_R, cJ_R, cR_R, cN_R, cI_N, cL_N, cA_N, cJ_N, cR_N, cN_N, ↓reduceIte, Nat.reduceEqDiff, upd_at, updL_at, h5, h28, cSpd]; done) | (simp [mI_I, mL_I, mA_I, mJ_I, mI_L, mL_L, mA_L, mJ_L, mI_A, mL_A, mA_A, mJ_A, mI_J, mL_J, mA_J, mJ_J, cI_I, cL_I, cA_I, cJ_I, cR_I, cN_I, cI_L, cL_L, cA_L, cJ_L, cR_L, cN_L, cI_A, cL_A, cA_A, cJ_A, cR_A, cN_A, cI_J, cL_J, cA_J, cJ_J, cR_J, cN_J, cI_R, cL_R, cA_R, cJ_R, cR_R, cN_R, cI_N, cL_N, cA_N, cJ_N, cR_N, cN_N, ↓reduceIte, Nat.reduceEqDiff, upd_at, updL_at, h5, h28, cSpd]; rfl)
theorem c_Ctl_spend0 (l : Launch) (G : GG) (a : AD) (c : CC) (m : MM) (o : OO)  (hx : cI c 3 0 = 0) : CT l G y_Ctl_spend (.code y_Ctl_spend b_Ctl_spend 1 none) 7 1 6 (Fyes G) (wld G a c m o) [.ref (a 2 0)] (fun r w2 => r = .inr 0 ∧ w2 = wld G a (cOff c) m o) := by
  refine CT.of (by decide) (Nat.le_of_ble_eq_true rfl) rfl ?_
  intro E hl hG hF C r hw hex hnm
  subst hl; subst hG
  have Fw : Cw E := fun a h => by rw [hF]; exact h
  refine aw_aload_n (i := 0) C (dec D_Ctl_spend rfl) rfl rfl ?_
  refine aw_aload_n (i := 0) C (dec D_Ctl_spend rfl) rfl rfl ?_
  refine gf_Ctl_9 C (dec D_Ctl_spend rfl) ?_
  refine aw_if_eq (tgt := 12) C (dec D_Ctl_spend rfl) (by decide) (fun h5 => ?_) (fun h5 => ?_)
  · try simp only [mI_I, mL_I, mA_I, mJ_I, mI_L, mL_L, mA_L, mJ_L, mI_A, mL_A, mA_A, mJ_A, mI_J, mL_J, mA_J, mJ_J, cI_I, cL_I, cA_I, cJ_I, cR_I, cN_I, cI_L, cL_L, cA_L, cJ_L, cR_L, cN_L, cI_A, cL_A, cA_A, cJ_A, cR_A, cN_A, cI_J, cL_J, cA_J, cJ_J, cR_J, cN_J, cI_R, cL_R, cA_R, cJ_R, cR_R, cN_R, cI_N, cL_N, cA_N, cJ_N, cR_N, cN_N, ↓reduceIte, Nat.reduceEqDiff, upd_at, updL_at] at h5
    refine aw_iconst (v := 0) C (dec D_Ctl_spend rfl) (by decide) ?_
    refine pf_Ctl_15 C Fw bz0 (dec D_Ctl_spend rfl) ?_
    refine aw_aload_n (i := 0) C (dec D_Ctl_spend rfl) rfl rfl ?_
    refine gf_Ctl_15 C (dec D_Ctl_spend rfl) ?_
    refine aw_csn C ci_Ctl_23 [_] (c_Box_want0 _ _ _ _ _ _) (dec D_Ctl_spend rfl) rfl fpP (Nat.le_of_ble_eq_true rfl) (by decide) ⟨by decide, by decide⟩ (fun v w2 hp => by cases hp.1) (fun n w2 hp => ?_)
    obtain ⟨hv, rfl⟩ := hp
    cases hv
    exact at_leave C r hex (by decide) (by decide) (⟨rfl, rfl⟩)
  · try simp only [mI_I, mL_I, mA_I, mJ_I, mI_L, mL_L, mA_L, mJ_L, mI_A, mL_A, mA_A, mJ_A, mI_J, mL_J, mA_J, mJ_J, cI_I, cL_I, cA_I, cJ_I, cR_I, cN_I, cI_L, cL_L, cA_L, cJ_L, cR_L, cN_L, cI_A, cL_A, cA_A, cJ_A, cR_A, cN_A, cI_J, cL_J, cA_J, cJ_J, cR_J, cN_J, cI_R, cL_R, cA_R, cJ_R, cR_R, cN_R, cI_N, cL_N, cA_N, cJ_N, cR_N, cN_N, ↓reduceIte, Nat.reduceEqDiff, upd_at, updL_at] at h5
    exact absurd hx h5
theorem c_Ctl_read1 (l : Launch) (G : GG) (a : AD) (c : CC) (m : MM) (o : OO) (p : Nat) (lp mp : Nat → Nat) (dd : Nat → Int64) (hx : ¬ cI c 3 0 = 0) (hp1 : p < 101) (hl : LWf c lp) (hD : Dat c lp mp dd) : CT l G y_Ctl_read (.code y_Ctl_read b_Ctl_read 2 (some .long)) 2 0 0 (Fyes G) (wld G a c m o) [.ref (a 2 0), .int (nI p)] (fun r w2 => r = .inl (some (.long (dd p))) ∧ w2 = wld G a (cTurn (cSpd c) (nI p)) m o) := by
  refine CT.of (by decide) (Nat.le_of_ble_eq_true rfl) rfl ?_
  intro E hl hG hF C r hw hex hnm
  subst hl; subst hG
  have Fw : Cw E := fun a h => by rw [hF]; exact h
  refine aw_aload_n (i := 0) C (dec D_Ctl_read rfl) rfl rfl ?_
  refine aw_cv C ci_Ctl_27 [] (c_Ctl_spend1 _ _ _ _ _ _ hx) (dec D_Ctl_read rfl) rcT rfl (fpW Fw) (Nat.le_of_ble_eq_true rfl) (by decide) ⟨by decide, by decide⟩ (fun v w2 hp => ?_) (fun _ _ h => by cases h.1)
  obtain ⟨hv, rfl⟩ := hp
  cases hv
  refine aw_aload_n (i := 0) C (dec D_Ctl_read rfl) rfl rfl ?_
  refine gf_Ctl_19 C (dec D_Ctl_read rfl) ?_
  refine aw_iload_n (i := 1) C (dec D_Ctl_read rfl) rfl rfl ?_
  refine aw_cv C ci_Ctl_30 [_] (c_Chip_read _ _ _ _ _ _ p lp mp dd hp1 (hl.of rfl rfl rfl) (hD.of rfl rfl rfl)) (dec D_Ctl_read rfl) rcC rfl (fpW Fw) (Nat.le_of_ble_eq_true rfl) (by decide) ⟨by decide, by decide⟩ (fun v w2 hp => ?_) (fun _ _ h => by cases h.1)
  obtain ⟨hv, rfl⟩ := hp
  cases hv
  refine aw_ret_l C r (dec D_Ctl_read rfl) (by decide) (by decide) ?_
  exact ⟨rfl, rfl⟩
theorem c_Ctl_read0 (l : Launch) (G : GG) (a : AD) (c : CC) (m : MM) (o : OO) (x : Int32) (hx : cI c 3 0 = 0) : CT l G y_Ctl_read (.code y_Ctl_read b_Ctl_read 2 (some .long)) 8 1 6 (Fyes G) (wld G a c m o) [.ref (a 2 0), .int x] (fun r w2 => r = .inr 0 ∧ w2 = wld G a (cOff c) m o) := by
  refine CT.of (by decide) (Nat.le_of_ble_eq_true rfl) rfl ?_
  intro E hl hG hF C r hw hex hnm
  subst hl; subst hG
  have Fw : Cw E := fun a h => by rw [hF]; exact h
  refine aw_aload_n (i := 0) C (dec D_Ctl_read rfl) rfl rfl ?_
  refine aw_cv C ci_Ctl_27 [] (c_Ctl_spend0 _ _ _ _ _ _ hx) (dec D_Ctl_read rfl) rcT rfl (fpW Fw) (Nat.le_of_ble_eq_true rfl) (by decide) ⟨by decide, by decide⟩ (fun v w2 hp => by cases hp.1) (fun n w2 hp => ?_)
  obtain ⟨hv, rfl⟩ := hp
  cases hv
  exact at_leave C r hex (by decide) (by decide) (⟨rfl, rfl⟩)
theorem c_Ctl_write1 (l : Launch) (G : GG) (a : AD) (c : CC) (m : MM) (o : OO) (p : Nat) (v : Int64) (lp mp : Nat → Nat) (dd : Nat → Int64) (hx : ¬ cI c 3 0 = 0) (hp1 : p < 101) (hl : LWf c lp) (hD : Dat c lp mp dd) : CT l G y_Ctl_write (.code y_Ctl_write b_Ctl_write 4 none) 2 0 0 (Fyes G) (wld G a c m o) [.ref (a 2 0), .int (nI p), .long v] (fun r w2 => r = .inl none ∧ w2 = wld G a (cWrN (cTurn (cSpd c) (nI p)) lp mp p v 64) m o) := by
  refine CT.of (by decide) (Nat.le_of_ble_eq_true rfl) rfl ?_
  intro E hl hG hF C r hw hex hnm
  subst hl; subst hG
  have Fw : Cw E := fun a h => by rw [hF]; exact h
  refine aw_aload_n (i := 0) C (dec D_Ctl_write rfl) rfl rfl ?_
  refine aw_cv C ci_Ctl_27 [] (c_Ctl_spend1 _ _ _ _ _ _ hx) (dec D_Ctl_write rfl) rcT rfl (fpW Fw) (Nat.le_of_ble_eq_true rfl) (by decide) ⟨by decide, by decide⟩ (fun v w2 hp => ?_) (fun _ _ h => by cases h.1)
  obtain ⟨hv, rfl⟩ := hp
  cases hv
  refine aw_aload_n (i := 0) C (dec D_Ctl_write rfl) rfl rfl ?_
  refine gf_Ctl_19 C (dec D_Ctl_write rfl) ?_
  refine aw_iload_n (i := 1) C (dec D_Ctl_write rfl) rfl rfl ?_
  refine aw_lload_n (i := 2) C (dec D_Ctl_write rfl) rfl rfl ?_
  refine aw_cv C ci_Ctl_36 [_, _] (c_Chip_write _ _ _ _ _ _ p v lp mp dd hp1 (hl.of rfl rfl rfl) (hD.of rfl rfl rfl)) (dec D_Ctl_write rfl) rcC rfl (fpW Fw) (Nat.le_of_ble_eq_true rfl) (by decide) ⟨by decide, by decide⟩ (fun v w2 hp => ?_) (fun _ _ h => by cases h.1)
  obtain ⟨hv, rfl⟩ := hp
  cases hv
  refine aw_ret_v C r (dec D_Ctl_write rfl) (by decide) (by decide) ?_
  exact ⟨rfl, rfl⟩
theorem c_Ctl_write0 (l : Launch) (G : GG) (a : AD) (c : CC) (m : MM) (o : OO) (x : Int32) (v : Int64) (hx : cI c 3 0 = 0) : CT l G y_Ctl_write (.code y_Ctl_write b_Ctl_write 4 none) 8 1 6 (Fyes G) (wld G a c m o) [.ref (a 2 0), .int x, .long v] (fun r w2 => r = .inr 0 ∧ w2 = wld G a (cOff c) m o) := by
  refine CT.of (by decide) (Nat.le_of_ble_eq_true rfl) rfl ?_
  intro E hl hG hF C r hw hex hnm
  subst hl; subst hG
  have Fw : Cw E := fun a h => by rw [hF]; exact h
  refine aw_aload_n (i := 0) C (dec D_Ctl_write rfl) rfl rfl ?_
  refine aw_cv C ci_Ctl_27 [] (c_Ctl_spend0 _ _ _ _ _ _ hx) (dec D_Ctl_write rfl) rcT rfl (fpW Fw) (Nat.le_of_ble_eq_true rfl) (by decide) ⟨by decide, by decide⟩ (fun v w2 hp => by cases hp.1) (fun n w2 hp => ?_)
  obtain ⟨hv, rfl⟩ := hp
  cases hv
  exact at_leave C r hex (by decide) (by decide) (⟨rfl, rfl⟩)
def cT1 (c : CC) (j p : Nat) : CC := sJ (sJ c 16 j (lSet (cJ c 16 j) p 1)) 16 j (lSet (cJ (sJ c 16 j (lSet (cJ c 16 j) p 1)) 16 j) p 0)
theorem lGet_set {g : Nat → Int64} {p : Nat} (hp : p < 101) (b : Bool) : lGet (lSet g p (bI b)) p = bI b := by rw [lGet_bit _ hp, lSet_bit _ hp, if_pos rfl]
theorem c_Loop_tests1 (l : Launch) (G : GG) (a : AD) (c : CC) (m : MM) (o : OO) (j p : Nat) (hj : j < cN c 15 0) (hz : cN c 16 j = 0) (hp1 : p < 101) : CT l G y_Loop_tests (.code y_Loop_tests b_Loop_tests 3 (some .boolean)) 1 0 0 (Fyes G) (wld G a c m o) [.ref (a 15 j), .int (nI p)] (fun r w2 => r = .inl (some (.int 1)) ∧ w2 = wld G a (cT1 c j p) m o) := by
  refine CT.of (by decide) (Nat.le_of_ble_eq_true rfl) rfl ?_
  intro E hl hG hF C r hw hex hnm
  subst hl; subst hG
  have Fw : Cw E := fun a h => by rw [hF]; exact h
  refine aw_aload_n (i := 0) C (dec D_Loop_tests rfl) rfl rfl ?_
  refine aw_iload_n (i := 1) C (dec D_Loop_tests rfl) rfl rfl ?_
  refine aw_iconst (v := 1) C (dec D_Loop_tests rfl) (by decide) ?_
  refine aw_cv C ci_Loop_15 [_, _] (c_Loop_set _ _ _ _ _ _ j p _ hj hp1) (dec D_Loop_tests rfl) (rcL hj hz) rfl (fpW Fw) (Nat.le_of_ble_eq_true rfl) (by decide) ⟨by decide, by decide⟩ (fun v w2 hp => ?_) (fun _ _ h => by cases h.1)
  obtain ⟨hv, rfl⟩ := hp
  cases hv
  refine aw_aload_n (i := 0) C (dec D_Loop_tests rfl) rfl rfl ?_
  refine aw_iload_n (i := 1) C (dec D_Loop_tests rfl) rfl rfl ?_
  refine aw_cv C ci_Loop_19 [_] (c_Loop_get _ _ _ _ _ _ j p hj hp1) (dec D_Loop_tests rfl) (rcL hj hz) rfl fpP (Nat.le_of_ble_eq_true rfl) (by decide) ⟨by decide, by decide⟩ (fun v w2 hp => ?_) (fun _ _ h => by cases h.1)
  obtain ⟨hv, rfl⟩ := hp
  cases hv
  rw [show lGet (cJ (sJ c 16 j (lSet (cJ c 16 j) p 1)) 16 j) p = 1 from by rw [cJ_J, if_pos rfl, if_pos rfl]; exact lGet_set hp1 true]
  refine aw_iconst (v := 1) C (dec D_Loop_tests rfl) (by decide) ?_
  refine aw_icmp_ne (tgt := 19) C (dec D_Loop_tests rfl) (by decide) (fun h_ => absurd (show (1 : Int32) = (1 : Int32) by decide) h_) (fun _ => ?_)
  refine aw_iconst (v := 1) C (dec D_Loop_tests rfl) (by decide) ?_
  refine aw_goto (tgt := 20) C (dec D_Loop_tests rfl) (by decide) ?_
  refine aw_istore_n (i := 2) C (dec D_Loop_tests rfl) rfl (by decide) ?_
  refine aw_aload_n (i := 0) C (dec D_Loop_tests rfl) rfl rfl ?_
  refine aw_iload_n (i := 1) C (dec D_Loop_tests rfl) rfl rfl ?_
  refine aw_iconst (v := 0) C (dec D_Loop_tests rfl) (by decide) ?_
  refine aw_cv C ci_Loop_15 [_, _] (c_Loop_set _ _ _ _ _ _ j p _ hj hp1) (dec D_Loop_tests rfl) (rcL hj hz) rfl (fpW Fw) (Nat.le_of_ble_eq_true rfl) (by decide) ⟨by decide, by decide⟩ (fun v w2 hp => ?_) (fun _ _ h => by cases h.1)
  obtain ⟨hv, rfl⟩ := hp
  cases hv
  refine aw_iload_n (i := 2) C (dec D_Loop_tests rfl) rfl rfl ?_
  refine aw_if_eq (tgt := 43) C (dec D_Loop_tests rfl) (by decide) (fun h_ => absurd h_ (show ¬ (1 : Int32) = (0 : Int32) by decide)) (fun _ => ?_)
  refine aw_aload_n (i := 0) C (dec D_Loop_tests rfl) rfl rfl ?_
  refine aw_iload_n (i := 1) C (dec D_Loop_tests rfl) rfl rfl ?_
  refine aw_cv C ci_Loop_19 [_] (c_Loop_get _ _ _ _ _ _ j p hj hp1) (dec D_Loop_tests rfl) (rcL hj hz) rfl fpP (Nat.le_of_ble_eq_true rfl) (by decide) ⟨by decide, by decide⟩ (fun v w2 hp => ?_) (fun _ _ h => by cases h.1)
  obtain ⟨hv, rfl⟩ := hp
  cases hv
  rw [show lGet (cJ (sJ (sJ c 16 j (lSet (cJ c 16 j) p 1)) 16 j (lSet (cJ (sJ c 16 j (lSet (cJ c 16 j) p 1)) 16 j) p 0)) 16 j) p = 0 from by rw [cJ_J, if_pos rfl, if_pos rfl]; exact lGet_set hp1 false]
  refine aw_if_ne (tgt := 43) C (dec D_Loop_tests rfl) (by decide) (fun h_ => absurd (show (0 : Int32) = (0 : Int32) by decide) h_) (fun _ => ?_)
  refine aw_iconst (v := 1) C (dec D_Loop_tests rfl) (by decide) ?_
  refine aw_goto (tgt := 44) C (dec D_Loop_tests rfl) (by decide) ?_
  refine aw_ret_i C r (dec D_Loop_tests rfl) rfl (by decide) (by decide) ?_
  exact ⟨rfl, rfl⟩
theorem c_Loop_tests0 (l : Launch) (G : GG) (a : AD) (c : CC) (m : MM) (o : OO) (j p : Nat) (hj : j < cN c 15 0) (hz : ¬ cN c 16 j = 0) (hb : B01 (cI c 9 j)) (hp1 : p < 101) : CT l G y_Loop_tests (.code y_Loop_tests b_Loop_tests 3 (some .boolean)) 1 0 0 (Fyes G) (wld G a c m o) [.ref (a 15 j), .int (nI p)] (fun r w2 => r = .inl (some (.int 0)) ∧ w2 = wld G a (cT1 c j p) m o) := by
  refine CT.of (by decide) (Nat.le_of_ble_eq_true rfl) rfl ?_
  intro E hl hG hF C r hw hex hnm
  subst hl; subst hG
  have Fw : Cw E := fun a h => by rw [hF]; exact h
  refine aw_aload_n (i := 0) C (dec D_Loop_tests rfl) rfl rfl ?_
  refine aw_iload_n (i := 1) C (dec D_Loop_tests rfl) rfl rfl ?_
  refine aw_iconst (v := 1) C (dec D_Loop_tests rfl) (by decide) ?_
  refine aw_cu C ci_Loop_15_S [_, _] (c_Loop_set _ _ _ _ _ _ j p _ hj hp1) (dec D_Loop_tests rfl) (rcS hj hz) rfl (fpW Fw) (Nat.le_of_ble_eq_true rfl) (by decide) ⟨by decide, by decide⟩ (fun v w2 hp => ?_) (fun _ _ h => by cases h.1)
  obtain ⟨hv, rfl⟩ := hp
  cases hv
  refine aw_aload_n (i := 0) C (dec D_Loop_tests rfl) rfl rfl ?_
  refine aw_iload_n (i := 1) C (dec D_Loop_tests rfl) rfl rfl ?_
  refine aw_cu C ci_Loop_19_S [_] (c_Stuck_get _ _ _ _ _ _ j _ hj hz) (dec D_Loop_tests rfl) (rcS hj hz) rfl fpP (Nat.le_of_ble_eq_true rfl) (by decide) ⟨by decide, by decide⟩ (fun v w2 hp => ?_) (fun _ _ h => by cases h.1)
  obtain ⟨hv, rfl⟩ := hp
  cases hv
  refine aw_iconst (v := 1) C (dec D_Loop_tests rfl) (by decide) ?_
  refine aw_icmp_ne (tgt := 19) C (dec D_Loop_tests rfl) (by decide) (fun h12 => ?_) (fun h12 => ?_)
  · refine aw_iconst (v := 0) C (dec D_Loop_tests rfl) (by decide) ?_
    refine aw_istore_n (i := 2) C (dec D_Loop_tests rfl) rfl (by decide) ?_
    refine aw_aload_n (i := 0) C (dec D_Loop_tests rfl) rfl rfl ?_
    refine aw_iload_n (i := 1) C (dec D_Loop_tests rfl) rfl rfl ?_
    refine aw_iconst (v := 0) C (dec D_Loop_tests rfl) (by decide) ?_
    refine aw_cu C ci_Loop_15_S [_, _] (c_Loop_set _ _ _ _ _ _ j p _ hj hp1) (dec D_Loop_tests rfl) (rcS hj hz) rfl (fpW Fw) (Nat.le_of_ble_eq_true rfl) (by decide) ⟨by decide, by decide⟩ (fun v w2 hp => ?_) (fun _ _ h => by cases h.1)
    obtain ⟨hv, rfl⟩ := hp
    cases hv
    refine aw_iload_n (i := 2) C (dec D_Loop_tests rfl) rfl rfl ?_
    refine aw_if_eq (tgt := 43) C (dec D_Loop_tests rfl) (by decide) (fun _ => ?_) (fun h_ => absurd (show (0 : Int32) = (0 : Int32) by decide) h_)
    refine aw_iconst (v := 0) C (dec D_Loop_tests rfl) (by decide) ?_
    refine aw_ret_i C r (dec D_Loop_tests rfl) rfl (by decide) (by decide) ?_
    exact ⟨rfl, rfl⟩
  · refine aw_iconst (v := 1) C (dec D_Loop_tests rfl) (by decide) ?_
    refine aw_goto (tgt := 20) C (dec D_Loop_tests rfl) (by decide) ?_
    refine aw_istore_n (i := 2) C (dec D_Loop_tests rfl) rfl (by decide) ?_
    refine aw_aload_n (i := 0) C (dec D_Loop_tests rfl) rfl rfl ?_
    refine aw_iload_n (i := 1) C (dec D_Loop_tests rfl) rfl rfl ?_
    refine aw_iconst (v := 0) C (dec D_Loop_tests rfl) (by decide) ?_
    refine aw_cu C ci_Loop_15_S [_, _] (c_Loop_set _ _ _ _ _ _ j p _ hj hp1) (dec D_Loop_tests rfl) (rcS hj hz) rfl (fpW Fw) (Nat.le_of_ble_eq_true rfl) (by decide) ⟨by decide, by decide⟩ (fun v w2 hp => ?_) (fun _ _ h => by cases h.1)
    obtain ⟨hv, rfl⟩ := hp
    cases hv
    refine aw_iload_n (i := 2) C (dec D_Loop_tests rfl) rfl rfl ?_
    refine aw_if_eq (tgt := 43) C (dec D_Loop_tests rfl) (by decide) (fun h_ => absurd h_ (show ¬ (1 : Int32) = (0 : Int32) by decide)) (fun _ => ?_)
    refine aw_aload_n (i := 0) C (dec D_Loop_tests rfl) rfl rfl ?_
    refine aw_iload_n (i := 1) C (dec D_Loop_tests rfl) rfl rfl ?_
    refine aw_cu C ci_Loop_19_S [_] (c_Stuck_get _ _ _ _ _ _ j _ hj hz) (dec D_Loop_tests rfl) (rcS hj hz) rfl fpP (Nat.le_of_ble_eq_true rfl) (by decide) ⟨by decide, by decide⟩ (fun v w2 hp => ?_) (fun _ _ h => by cases h.1)
    obtain ⟨hv, rfl⟩ := hp
    cases hv
    refine aw_if_ne (tgt := 43) C (dec D_Loop_tests rfl) (by decide) (fun h36 => ?_) (fun h36 => ?_)
    · refine aw_iconst (v := 0) C (dec D_Loop_tests rfl) (by decide) ?_
      refine aw_ret_i C r (dec D_Loop_tests rfl) rfl (by decide) (by decide) ?_
      exact ⟨rfl, rfl⟩
    · exact absurd (h12.symm.trans h36) (by decide)
