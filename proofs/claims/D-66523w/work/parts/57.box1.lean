/-! the box: small methods; printed by tools/m57.py -/
def cPower (c : CC) (x : Int32) : CC := if cI c 4 0 = 0 then c else sI c 3 0 (if 0 ≤ x then x else -1)
def cState (c : CC) : Int32 := if cI c 4 0 = 0 then 0 else if cI c 0 0 = 0 then 1 else 2
def cMtd (c : CC) : Int32 := if cI c 0 0 = 0 then 0 else if cI c 4 0 = 0 then 0 else 1
theorem c_Box_power (l : Launch) (G : GG) (a : AD) (c : CC) (m : MM) (o : OO) (x : Int32)  : CT l G y_Box_power (.code y_Box_power b_Box_power 2 none) 0 0 0 (Fyes G) (wld G a c m o) [.ref (a 0 0), .int x] (fun r w2 => r = .inl none ∧ w2 = wld G a (cPower c x) m o) := by
  refine CT.of (by decide) (Nat.le_of_ble_eq_true rfl) rfl ?_
  intro E hl hG hF C r hw hex hnm
  subst hl; subst hG
  have Fw : Cw E := fun a h => by rw [hF]; exact h
  refine aw_aload_n (i := 0) C (dec D_Box_power rfl) rfl rfl ?_
  refine gf_Box_27 C (dec D_Box_power rfl) ?_
  refine gf_Box_59 C (dec D_Box_power rfl) ?_
  refine aw_if_eq (tgt := 26) C (dec D_Box_power rfl) (by decide) (fun h7 => ?_) (fun h7 => ?_)
  · try simp only [mI_I, mL_I, mA_I, mJ_I, mI_L, mL_L, mA_L, mJ_L, mI_A, mL_A, mA_A, mJ_A, mI_J, mL_J, mA_J, mJ_J, cI_I, cL_I, cA_I, cJ_I, cR_I, cN_I, cI_L, cL_L, cA_L, cJ_L, cR_L, cN_L, cI_A, cL_A, cA_A, cJ_A, cR_A, cN_A, cI_J, cL_J, cA_J, cJ_J, cR_J, cN_J, cI_R, cL_R, cA_R, cJ_R, cR_R, cN_R, cI_N, cL_N, cA_N, cJ_N, cR_N, cN_N, ↓reduceIte, Nat.reduceEqDiff, upd_at, updL_at] at h7
    refine aw_ret_v C r (dec D_Box_power rfl) (by decide) (by decide) ?_
    refine ⟨?_, ?_⟩ <;> first | with_reducible rfl | (simp [mI_I, mL_I, mA_I, mJ_I, mI_L, mL_L, mA_L, mJ_L, mI_A, mL_A, mA_A, mJ_A, mI_J, mL_J, mA_J, mJ_J, cI_I, cL_I, cA_I, cJ_I, cR_I, cN_I, cI_L, cL_L, cA_L, cJ_L, cR_L, cN_L, cI_A, cL_A, cA_A, cJ_A, cR_A, cN_A, cI_J, cL_J, cA_J, cJ_J, cR_J, cN_J, cI_R, cL_R, cA_R, cJ_R, cR_R, cN_R, cI_N, cL_N, cA_N, cJ_N, cR_N, cN_N, ↓reduceIte, Nat.reduceEqDiff, upd_at, updL_at, h7, cPower]; done) | (simp [mI_I, mL_I, mA_I, mJ_I, mI_L, mL_L, mA_L, mJ_L, mI_A, mL_A, mA_A, mJ_A, mI_J, mL_J, mA_J, mJ_J, cI_I, cL_I, cA_I, cJ_I, cR_I, cN_I, cI_L, cL_L, cA_L, cJ_L, cR_L, cN_L, cI_A, cL_A, cA_A, cJ_A, cR_A, cN_A, cI_J, cL_J, cA_J, cJ_J, cR_J, cN_J, cI_R, cL_R, cA_R, cJ_R, cR_R, cN_R, cI_N, cL_N, cA_N, cJ_N, cR_N, cN_N, ↓reduceIte, Nat.reduceEqDiff, upd_at, updL_at, h7, cPower]; rfl)
  · try simp only [mI_I, mL_I, mA_I, mJ_I, mI_L, mL_L, mA_L, mJ_L, mI_A, mL_A, mA_A, mJ_A, mI_J, mL_J, mA_J, mJ_J, cI_I, cL_I, cA_I, cJ_I, cR_I, cN_I, cI_L, cL_L, cA_L, cJ_L, cR_L, cN_L, cI_A, cL_A, cA_A, cJ_A, cR_A, cN_A, cI_J, cL_J, cA_J, cJ_J, cR_J, cN_J, cI_R, cL_R, cA_R, cJ_R, cR_R, cN_R, cI_N, cL_N, cA_N, cJ_N, cR_N, cN_N, ↓reduceIte, Nat.reduceEqDiff, upd_at, updL_at] at h7
    refine aw_aload_n (i := 0) C (dec D_Box_power rfl) rfl rfl ?_
    refine gf_Box_27 C (dec D_Box_power rfl) ?_
    refine aw_iload_n (i := 1) C (dec D_Box_power rfl) rfl rfl ?_
    refine aw_if_ge (tgt := 22) C (dec D_Box_power rfl) (by decide) (fun h15 => ?_) (fun h15 => ?_)
    · try simp only [mI_I, mL_I, mA_I, mJ_I, mI_L, mL_L, mA_L, mJ_L, mI_A, mL_A, mA_A, mJ_A, mI_J, mL_J, mA_J, mJ_J, cI_I, cL_I, cA_I, cJ_I, cR_I, cN_I, cI_L, cL_L, cA_L, cJ_L, cR_L, cN_L, cI_A, cL_A, cA_A, cJ_A, cR_A, cN_A, cI_J, cL_J, cA_J, cJ_J, cR_J, cN_J, cI_R, cL_R, cA_R, cJ_R, cR_R, cN_R, cI_N, cL_N, cA_N, cJ_N, cR_N, cN_N, ↓reduceIte, Nat.reduceEqDiff, upd_at, updL_at] at h15
      refine aw_iload_n (i := 1) C (dec D_Box_power rfl) rfl rfl ?_
      refine pf_Box_93 C Fw (dec D_Box_power rfl) ?_
      refine aw_ret_v C r (dec D_Box_power rfl) (by decide) (by decide) ?_
      refine ⟨?_, ?_⟩ <;> first | with_reducible rfl | (simp [mI_I, mL_I, mA_I, mJ_I, mI_L, mL_L, mA_L, mJ_L, mI_A, mL_A, mA_A, mJ_A, mI_J, mL_J, mA_J, mJ_J, cI_I, cL_I, cA_I, cJ_I, cR_I, cN_I, cI_L, cL_L, cA_L, cJ_L, cR_L, cN_L, cI_A, cL_A, cA_A, cJ_A, cR_A, cN_A, cI_J, cL_J, cA_J, cJ_J, cR_J, cN_J, cI_R, cL_R, cA_R, cJ_R, cR_R, cN_R, cI_N, cL_N, cA_N, cJ_N, cR_N, cN_N, ↓reduceIte, Nat.reduceEqDiff, upd_at, updL_at, h7, h15, cPower]; done) | (simp [mI_I, mL_I, mA_I, mJ_I, mI_L, mL_L, mA_L, mJ_L, mI_A, mL_A, mA_A, mJ_A, mI_J, mL_J, mA_J, mJ_J, cI_I, cL_I, cA_I, cJ_I, cR_I, cN_I, cI_L, cL_L, cA_L, cJ_L, cR_L, cN_L, cI_A, cL_A, cA_A, cJ_A, cR_A, cN_A, cI_J, cL_J, cA_J, cJ_J, cR_J, cN_J, cI_R, cL_R, cA_R, cJ_R, cR_R, cN_R, cI_N, cL_N, cA_N, cJ_N, cR_N, cN_N, ↓reduceIte, Nat.reduceEqDiff, upd_at, updL_at, h7, h15, cPower]; rfl)
    · try simp only [mI_I, mL_I, mA_I, mJ_I, mI_L, mL_L, mA_L, mJ_L, mI_A, mL_A, mA_A, mJ_A, mI_J, mL_J, mA_J, mJ_J, cI_I, cL_I, cA_I, cJ_I, cR_I, cN_I, cI_L, cL_L, cA_L, cJ_L, cR_L, cN_L, cI_A, cL_A, cA_A, cJ_A, cR_A, cN_A, cI_J, cL_J, cA_J, cJ_J, cR_J, cN_J, cI_R, cL_R, cA_R, cJ_R, cR_R, cN_R, cI_N, cL_N, cA_N, cJ_N, cR_N, cN_N, ↓reduceIte, Nat.reduceEqDiff, upd_at, updL_at] at h15
      refine aw_iconst (v := (-1)) C (dec D_Box_power rfl) (by decide) ?_
      refine aw_goto (tgt := 23) C (dec D_Box_power rfl) (by decide) ?_
      refine pf_Box_93 C Fw (dec D_Box_power rfl) ?_
      refine aw_ret_v C r (dec D_Box_power rfl) (by decide) (by decide) ?_
      refine ⟨?_, ?_⟩ <;> first | with_reducible rfl | (simp [mI_I, mL_I, mA_I, mJ_I, mI_L, mL_L, mA_L, mJ_L, mI_A, mL_A, mA_A, mJ_A, mI_J, mL_J, mA_J, mJ_J, cI_I, cL_I, cA_I, cJ_I, cR_I, cN_I, cI_L, cL_L, cA_L, cJ_L, cR_L, cN_L, cI_A, cL_A, cA_A, cJ_A, cR_A, cN_A, cI_J, cL_J, cA_J, cJ_J, cR_J, cN_J, cI_R, cL_R, cA_R, cJ_R, cR_R, cN_R, cI_N, cL_N, cA_N, cJ_N, cR_N, cN_N, ↓reduceIte, Nat.reduceEqDiff, upd_at, updL_at, h7, h15, cPower]; done) | (simp [mI_I, mL_I, mA_I, mJ_I, mI_L, mL_L, mA_L, mJ_L, mI_A, mL_A, mA_A, mJ_A, mI_J, mL_J, mA_J, mJ_J, cI_I, cL_I, cA_I, cJ_I, cR_I, cN_I, cI_L, cL_L, cA_L, cJ_L, cR_L, cN_L, cI_A, cL_A, cA_A, cJ_A, cR_A, cN_A, cI_J, cL_J, cA_J, cJ_J, cR_J, cN_J, cI_R, cL_R, cA_R, cJ_R, cR_R, cN_R, cI_N, cL_N, cA_N, cJ_N, cR_N, cN_N, ↓reduceIte, Nat.reduceEqDiff, upd_at, updL_at, h7, h15, cPower]; rfl)
theorem c_Box_state (l : Launch) (G : GG) (a : AD) (c : CC) (m : MM) (o : OO)   : CT l G y_Box_state (.code y_Box_state b_Box_state 1 (some .int)) 0 0 0 Fno (wld G a c m o) [.ref (a 0 0)] (fun r w2 => r = .inl (some (.int (cState c))) ∧ w2 = wld G a c m o) := by
  refine CT.of (by decide) (Nat.le_of_ble_eq_true rfl) rfl ?_
  intro E hl hG hF C r hw hex hnm
  subst hl; subst hG
  refine aw_aload_n (i := 0) C (dec D_Box_state rfl) rfl rfl ?_
  refine gf_Box_27 C (dec D_Box_state rfl) ?_
  refine gf_Box_59 C (dec D_Box_state rfl) ?_
  refine aw_if_ne (tgt := 14) C (dec D_Box_state rfl) (by decide) (fun h7 => ?_) (fun h7 => ?_)
  · try simp only [mI_I, mL_I, mA_I, mJ_I, mI_L, mL_L, mA_L, mJ_L, mI_A, mL_A, mA_A, mJ_A, mI_J, mL_J, mA_J, mJ_J, cI_I, cL_I, cA_I, cJ_I, cR_I, cN_I, cI_L, cL_L, cA_L, cJ_L, cR_L, cN_L, cI_A, cL_A, cA_A, cJ_A, cR_A, cN_A, cI_J, cL_J, cA_J, cJ_J, cR_J, cN_J, cI_R, cL_R, cA_R, cJ_R, cR_R, cN_R, cI_N, cL_N, cA_N, cJ_N, cR_N, cN_N, ↓reduceIte, Nat.reduceEqDiff, upd_at, updL_at] at h7
    refine aw_aload_n (i := 0) C (dec D_Box_state rfl) rfl rfl ?_
    refine gf_Box_55 C (dec D_Box_state rfl) ?_
    refine aw_if_eq (tgt := 25) C (dec D_Box_state rfl) (by decide) (fun h18 => ?_) (fun h18 => ?_)
    · try simp only [mI_I, mL_I, mA_I, mJ_I, mI_L, mL_L, mA_L, mJ_L, mI_A, mL_A, mA_A, mJ_A, mI_J, mL_J, mA_J, mJ_J, cI_I, cL_I, cA_I, cJ_I, cR_I, cN_I, cI_L, cL_L, cA_L, cJ_L, cR_L, cN_L, cI_A, cL_A, cA_A, cJ_A, cR_A, cN_A, cI_J, cL_J, cA_J, cJ_J, cR_J, cN_J, cI_R, cL_R, cA_R, cJ_R, cR_R, cN_R, cI_N, cL_N, cA_N, cJ_N, cR_N, cN_N, ↓reduceIte, Nat.reduceEqDiff, upd_at, updL_at] at h18
      refine aw_iconst (v := 1) C (dec D_Box_state rfl) (by decide) ?_
      refine aw_ret_i C r (dec D_Box_state rfl) rfl (by decide) (by decide) ?_
      refine ⟨?_, ?_⟩ <;> first | with_reducible rfl | (simp [mI_I, mL_I, mA_I, mJ_I, mI_L, mL_L, mA_L, mJ_L, mI_A, mL_A, mA_A, mJ_A, mI_J, mL_J, mA_J, mJ_J, cI_I, cL_I, cA_I, cJ_I, cR_I, cN_I, cI_L, cL_L, cA_L, cJ_L, cR_L, cN_L, cI_A, cL_A, cA_A, cJ_A, cR_A, cN_A, cI_J, cL_J, cA_J, cJ_J, cR_J, cN_J, cI_R, cL_R, cA_R, cJ_R, cR_R, cN_R, cI_N, cL_N, cA_N, cJ_N, cR_N, cN_N, ↓reduceIte, Nat.reduceEqDiff, upd_at, updL_at, h7, h18, cState]; done) | (simp [mI_I, mL_I, mA_I, mJ_I, mI_L, mL_L, mA_L, mJ_L, mI_A, mL_A, mA_A, mJ_A, mI_J, mL_J, mA_J, mJ_J, cI_I, cL_I, cA_I, cJ_I, cR_I, cN_I, cI_L, cL_L, cA_L, cJ_L, cR_L, cN_L, cI_A, cL_A, cA_A, cJ_A, cR_A, cN_A, cI_J, cL_J, cA_J, cJ_J, cR_J, cN_J, cI_R, cL_R, cA_R, cJ_R, cR_R, cN_R, cI_N, cL_N, cA_N, cJ_N, cR_N, cN_N, ↓reduceIte, Nat.reduceEqDiff, upd_at, updL_at, h7, h18, cState]; rfl)
    · try simp only [mI_I, mL_I, mA_I, mJ_I, mI_L, mL_L, mA_L, mJ_L, mI_A, mL_A, mA_A, mJ_A, mI_J, mL_J, mA_J, mJ_J, cI_I, cL_I, cA_I, cJ_I, cR_I, cN_I, cI_L, cL_L, cA_L, cJ_L, cR_L, cN_L, cI_A, cL_A, cA_A, cJ_A, cR_A, cN_A, cI_J, cL_J, cA_J, cJ_J, cR_J, cN_J, cI_R, cL_R, cA_R, cJ_R, cR_R, cN_R, cI_N, cL_N, cA_N, cJ_N, cR_N, cN_N, ↓reduceIte, Nat.reduceEqDiff, upd_at, updL_at] at h18
      refine aw_iconst (v := 2) C (dec D_Box_state rfl) (by decide) ?_
      refine aw_goto (tgt := 26) C (dec D_Box_state rfl) (by decide) ?_
      refine aw_ret_i C r (dec D_Box_state rfl) rfl (by decide) (by decide) ?_
      refine ⟨?_, ?_⟩ <;> first | with_reducible rfl | (simp [mI_I, mL_I, mA_I, mJ_I, mI_L, mL_L, mA_L, mJ_L, mI_A, mL_A, mA_A, mJ_A, mI_J, mL_J, mA_J, mJ_J, cI_I, cL_I, cA_I, cJ_I, cR_I, cN_I, cI_L, cL_L, cA_L, cJ_L, cR_L, cN_L, cI_A, cL_A, cA_A, cJ_A, cR_A, cN_A, cI_J, cL_J, cA_J, cJ_J, cR_J, cN_J, cI_R, cL_R, cA_R, cJ_R, cR_R, cN_R, cI_N, cL_N, cA_N, cJ_N, cR_N, cN_N, ↓reduceIte, Nat.reduceEqDiff, upd_at, updL_at, h7, h18, cState]; done) | (simp [mI_I, mL_I, mA_I, mJ_I, mI_L, mL_L, mA_L, mJ_L, mI_A, mL_A, mA_A, mJ_A, mI_J, mL_J, mA_J, mJ_J, cI_I, cL_I, cA_I, cJ_I, cR_I, cN_I, cI_L, cL_L, cA_L, cJ_L, cR_L, cN_L, cI_A, cL_A, cA_A, cJ_A, cR_A, cN_A, cI_J, cL_J, cA_J, cJ_J, cR_J, cN_J, cI_R, cL_R, cA_R, cJ_R, cR_R, cN_R, cI_N, cL_N, cA_N, cJ_N, cR_N, cN_N, ↓reduceIte, Nat.reduceEqDiff, upd_at, updL_at, h7, h18, cState]; rfl)
  · try simp only [mI_I, mL_I, mA_I, mJ_I, mI_L, mL_L, mA_L, mJ_L, mI_A, mL_A, mA_A, mJ_A, mI_J, mL_J, mA_J, mJ_J, cI_I, cL_I, cA_I, cJ_I, cR_I, cN_I, cI_L, cL_L, cA_L, cJ_L, cR_L, cN_L, cI_A, cL_A, cA_A, cJ_A, cR_A, cN_A, cI_J, cL_J, cA_J, cJ_J, cR_J, cN_J, cI_R, cL_R, cA_R, cJ_R, cR_R, cN_R, cI_N, cL_N, cA_N, cJ_N, cR_N, cN_N, ↓reduceIte, Nat.reduceEqDiff, upd_at, updL_at] at h7
    refine aw_iconst (v := 0) C (dec D_Box_state rfl) (by decide) ?_
    refine aw_goto (tgt := 26) C (dec D_Box_state rfl) (by decide) ?_
    refine aw_ret_i C r (dec D_Box_state rfl) rfl (by decide) (by decide) ?_
    refine ⟨?_, ?_⟩ <;> first | with_reducible rfl | (simp [mI_I, mL_I, mA_I, mJ_I, mI_L, mL_L, mA_L, mJ_L, mI_A, mL_A, mA_A, mJ_A, mI_J, mL_J, mA_J, mJ_J, cI_I, cL_I, cA_I, cJ_I, cR_I, cN_I, cI_L, cL_L, cA_L, cJ_L, cR_L, cN_L, cI_A, cL_A, cA_A, cJ_A, cR_A, cN_A, cI_J, cL_J, cA_J, cJ_J, cR_J, cN_J, cI_R, cL_R, cA_R, cJ_R, cR_R, cN_R, cI_N, cL_N, cA_N, cJ_N, cR_N, cN_N, ↓reduceIte, Nat.reduceEqDiff, upd_at, updL_at, h7, cState]; done) | (simp [mI_I, mL_I, mA_I, mJ_I, mI_L, mL_L, mA_L, mJ_L, mI_A, mL_A, mA_A, mJ_A, mI_J, mL_J, mA_J, mJ_J, cI_I, cL_I, cA_I, cJ_I, cR_I, cN_I, cI_L, cL_L, cA_L, cJ_L, cR_L, cN_L, cI_A, cL_A, cA_A, cJ_A, cR_A, cN_A, cI_J, cL_J, cA_J, cJ_J, cR_J, cN_J, cI_R, cL_R, cA_R, cJ_R, cR_R, cN_R, cI_N, cL_N, cA_N, cJ_N, cR_N, cN_N, ↓reduceIte, Nat.reduceEqDiff, upd_at, updL_at, h7, cState]; rfl)
theorem c_Box_steps (l : Launch) (G : GG) (a : AD) (c : CC) (m : MM) (o : OO)   : CT l G y_Box_steps (.code y_Box_steps b_Box_steps 1 (some .long)) 0 0 0 Fno (wld G a c m o) [.ref (a 0 0)] (fun r w2 => r = .inl (some (.long (cL c 0 0))) ∧ w2 = wld G a c m o) := by
  refine CT.of (by decide) (Nat.le_of_ble_eq_true rfl) rfl ?_
  intro E hl hG hF C r hw hex hnm
  subst hl; subst hG
  refine aw_aload_n (i := 0) C (dec D_Box_steps rfl) rfl rfl ?_
  refine gf_Box_18 C (dec D_Box_steps rfl) ?_
  refine gf_Box_97 C (dec D_Box_steps rfl) ?_
  refine aw_ret_l C r (dec D_Box_steps rfl) (by decide) (by decide) ?_
  refine ⟨?_, ?_⟩ <;> first | with_reducible rfl | (simp [mI_I, mL_I, mA_I, mJ_I, mI_L, mL_L, mA_L, mJ_L, mI_A, mL_A, mA_A, mJ_A, mI_J, mL_J, mA_J, mJ_J, cI_I, cL_I, cA_I, cJ_I, cR_I, cN_I, cI_L, cL_L, cA_L, cJ_L, cR_L, cN_L, cI_A, cL_A, cA_A, cJ_A, cR_A, cN_A, cI_J, cL_J, cA_J, cJ_J, cR_J, cN_J, cI_R, cL_R, cA_R, cJ_R, cR_R, cN_R, cI_N, cL_N, cA_N, cJ_N, cR_N, cN_N, ↓reduceIte, Nat.reduceEqDiff, upd_at, updL_at]; done) | (simp [mI_I, mL_I, mA_I, mJ_I, mI_L, mL_L, mA_L, mJ_L, mI_A, mL_A, mA_A, mJ_A, mI_J, mL_J, mA_J, mJ_J, cI_I, cL_I, cA_I, cJ_I, cR_I, cN_I, cI_L, cL_L, cA_L, cJ_L, cR_L, cN_L, cI_A, cL_A, cA_A, cJ_A, cR_A, cN_A, cI_J, cL_J, cA_J, cJ_J, cR_J, cN_J, cI_R, cL_R, cA_R, cJ_R, cR_R, cN_R, cI_N, cL_N, cA_N, cJ_N, cR_N, cN_N, ↓reduceIte, Nat.reduceEqDiff, upd_at, updL_at]; rfl)
theorem c_Box_isMounted (l : Launch) (G : GG) (a : AD) (c : CC) (m : MM) (o : OO)   : CT l G y_Box_isMounted (.code y_Box_isMounted b_Box_isMounted 1 (some .boolean)) 0 0 0 Fno (wld G a c m o) [.ref (a 0 0)] (fun r w2 => r = .inl (some (.int (cMtd c))) ∧ w2 = wld G a c m o) := by
  refine CT.of (by decide) (Nat.le_of_ble_eq_true rfl) rfl ?_
  intro E hl hG hF C r hw hex hnm
  subst hl; subst hG
  refine aw_aload_n (i := 0) C (dec D_Box_isMounted rfl) rfl rfl ?_
  refine gf_Box_55 C (dec D_Box_isMounted rfl) ?_
  refine aw_if_eq (tgt := 21) C (dec D_Box_isMounted rfl) (by decide) (fun h4 => ?_) (fun h4 => ?_)
  · try simp only [mI_I, mL_I, mA_I, mJ_I, mI_L, mL_L, mA_L, mJ_L, mI_A, mL_A, mA_A, mJ_A, mI_J, mL_J, mA_J, mJ_J, cI_I, cL_I, cA_I, cJ_I, cR_I, cN_I, cI_L, cL_L, cA_L, cJ_L, cR_L, cN_L, cI_A, cL_A, cA_A, cJ_A, cR_A, cN_A, cI_J, cL_J, cA_J, cJ_J, cR_J, cN_J, cI_R, cL_R, cA_R, cJ_R, cR_R, cN_R, cI_N, cL_N, cA_N, cJ_N, cR_N, cN_N, ↓reduceIte, Nat.reduceEqDiff, upd_at, updL_at] at h4
    refine aw_iconst (v := 0) C (dec D_Box_isMounted rfl) (by decide) ?_
    refine aw_ret_i C r (dec D_Box_isMounted rfl) rfl (by decide) (by decide) ?_
    refine ⟨?_, ?_⟩ <;> first | with_reducible rfl | (simp [mI_I, mL_I, mA_I, mJ_I, mI_L, mL_L, mA_L, mJ_L, mI_A, mL_A, mA_A, mJ_A, mI_J, mL_J, mA_J, mJ_J, cI_I, cL_I, cA_I, cJ_I, cR_I, cN_I, cI_L, cL_L, cA_L, cJ_L, cR_L, cN_L, cI_A, cL_A, cA_A, cJ_A, cR_A, cN_A, cI_J, cL_J, cA_J, cJ_J, cR_J, cN_J, cI_R, cL_R, cA_R, cJ_R, cR_R, cN_R, cI_N, cL_N, cA_N, cJ_N, cR_N, cN_N, ↓reduceIte, Nat.reduceEqDiff, upd_at, updL_at, h4, cMtd]; done) | (simp [mI_I, mL_I, mA_I, mJ_I, mI_L, mL_L, mA_L, mJ_L, mI_A, mL_A, mA_A, mJ_A, mI_J, mL_J, mA_J, mJ_J, cI_I, cL_I, cA_I, cJ_I, cR_I, cN_I, cI_L, cL_L, cA_L, cJ_L, cR_L, cN_L, cI_A, cL_A, cA_A, cJ_A, cR_A, cN_A, cI_J, cL_J, cA_J, cJ_J, cR_J, cN_J, cI_R, cL_R, cA_R, cJ_R, cR_R, cN_R, cI_N, cL_N, cA_N, cJ_N, cR_N, cN_N, ↓reduceIte, Nat.reduceEqDiff, upd_at, updL_at, h4, cMtd]; rfl)
  · try simp only [mI_I, mL_I, mA_I, mJ_I, mI_L, mL_L, mA_L, mJ_L, mI_A, mL_A, mA_A, mJ_A, mI_J, mL_J, mA_J, mJ_J, cI_I, cL_I, cA_I, cJ_I, cR_I, cN_I, cI_L, cL_L, cA_L, cJ_L, cR_L, cN_L, cI_A, cL_A, cA_A, cJ_A, cR_A, cN_A, cI_J, cL_J, cA_J, cJ_J, cR_J, cN_J, cI_R, cL_R, cA_R, cJ_R, cR_R, cN_R, cI_N, cL_N, cA_N, cJ_N, cR_N, cN_N, ↓reduceIte, Nat.reduceEqDiff, upd_at, updL_at] at h4
    refine aw_aload_n (i := 0) C (dec D_Box_isMounted rfl) rfl rfl ?_
    refine gf_Box_27 C (dec D_Box_isMounted rfl) ?_
    refine gf_Box_59 C (dec D_Box_isMounted rfl) ?_
    refine aw_if_eq (tgt := 21) C (dec D_Box_isMounted rfl) (by decide) (fun h14 => ?_) (fun h14 => ?_)
    · try simp only [mI_I, mL_I, mA_I, mJ_I, mI_L, mL_L, mA_L, mJ_L, mI_A, mL_A, mA_A, mJ_A, mI_J, mL_J, mA_J, mJ_J, cI_I, cL_I, cA_I, cJ_I, cR_I, cN_I, cI_L, cL_L, cA_L, cJ_L, cR_L, cN_L, cI_A, cL_A, cA_A, cJ_A, cR_A, cN_A, cI_J, cL_J, cA_J, cJ_J, cR_J, cN_J, cI_R, cL_R, cA_R, cJ_R, cR_R, cN_R, cI_N, cL_N, cA_N, cJ_N, cR_N, cN_N, ↓reduceIte, Nat.reduceEqDiff, upd_at, updL_at] at h14
      refine aw_iconst (v := 0) C (dec D_Box_isMounted rfl) (by decide) ?_
      refine aw_ret_i C r (dec D_Box_isMounted rfl) rfl (by decide) (by decide) ?_
      refine ⟨?_, ?_⟩ <;> first | with_reducible rfl | (simp [mI_I, mL_I, mA_I, mJ_I, mI_L, mL_L, mA_L, mJ_L, mI_A, mL_A, mA_A, mJ_A, mI_J, mL_J, mA_J, mJ_J, cI_I, cL_I, cA_I, cJ_I, cR_I, cN_I, cI_L, cL_L, cA_L, cJ_L, cR_L, cN_L, cI_A, cL_A, cA_A, cJ_A, cR_A, cN_A, cI_J, cL_J, cA_J, cJ_J, cR_J, cN_J, cI_R, cL_R, cA_R, cJ_R, cR_R, cN_R, cI_N, cL_N, cA_N, cJ_N, cR_N, cN_N, ↓reduceIte, Nat.reduceEqDiff, upd_at, updL_at, h4, h14, cMtd]; done) | (simp [mI_I, mL_I, mA_I, mJ_I, mI_L, mL_L, mA_L, mJ_L, mI_A, mL_A, mA_A, mJ_A, mI_J, mL_J, mA_J, mJ_J, cI_I, cL_I, cA_I, cJ_I, cR_I, cN_I, cI_L, cL_L, cA_L, cJ_L, cR_L, cN_L, cI_A, cL_A, cA_A, cJ_A, cR_A, cN_A, cI_J, cL_J, cA_J, cJ_J, cR_J, cN_J, cI_R, cL_R, cA_R, cJ_R, cR_R, cN_R, cI_N, cL_N, cA_N, cJ_N, cR_N, cN_N, ↓reduceIte, Nat.reduceEqDiff, upd_at, updL_at, h4, h14, cMtd]; rfl)
    · try simp only [mI_I, mL_I, mA_I, mJ_I, mI_L, mL_L, mA_L, mJ_L, mI_A, mL_A, mA_A, mJ_A, mI_J, mL_J, mA_J, mJ_J, cI_I, cL_I, cA_I, cJ_I, cR_I, cN_I, cI_L, cL_L, cA_L, cJ_L, cR_L, cN_L, cI_A, cL_A, cA_A, cJ_A, cR_A, cN_A, cI_J, cL_J, cA_J, cJ_J, cR_J, cN_J, cI_R, cL_R, cA_R, cJ_R, cR_R, cN_R, cI_N, cL_N, cA_N, cJ_N, cR_N, cN_N, ↓reduceIte, Nat.reduceEqDiff, upd_at, updL_at] at h14
      refine aw_iconst (v := 1) C (dec D_Box_isMounted rfl) (by decide) ?_
      refine aw_goto (tgt := 22) C (dec D_Box_isMounted rfl) (by decide) ?_
      refine aw_ret_i C r (dec D_Box_isMounted rfl) rfl (by decide) (by decide) ?_
      refine ⟨?_, ?_⟩ <;> first | with_reducible rfl | (simp [mI_I, mL_I, mA_I, mJ_I, mI_L, mL_L, mA_L, mJ_L, mI_A, mL_A, mA_A, mJ_A, mI_J, mL_J, mA_J, mJ_J, cI_I, cL_I, cA_I, cJ_I, cR_I, cN_I, cI_L, cL_L, cA_L, cJ_L, cR_L, cN_L, cI_A, cL_A, cA_A, cJ_A, cR_A, cN_A, cI_J, cL_J, cA_J, cJ_J, cR_J, cN_J, cI_R, cL_R, cA_R, cJ_R, cR_R, cN_R, cI_N, cL_N, cA_N, cJ_N, cR_N, cN_N, ↓reduceIte, Nat.reduceEqDiff, upd_at, updL_at, h4, h14, cMtd]; done) | (simp [mI_I, mL_I, mA_I, mJ_I, mI_L, mL_L, mA_L, mJ_L, mI_A, mL_A, mA_A, mJ_A, mI_J, mL_J, mA_J, mJ_J, cI_I, cL_I, cA_I, cJ_I, cR_I, cN_I, cI_L, cL_L, cA_L, cJ_L, cR_L, cN_L, cI_A, cL_A, cA_A, cJ_A, cR_A, cN_A, cI_J, cL_J, cA_J, cJ_J, cR_J, cN_J, cI_R, cL_R, cA_R, cJ_R, cR_R, cN_R, cI_N, cL_N, cA_N, cJ_N, cR_N, cN_N, ↓reduceIte, Nat.reduceEqDiff, upd_at, updL_at, h4, h14, cMtd]; rfl)
