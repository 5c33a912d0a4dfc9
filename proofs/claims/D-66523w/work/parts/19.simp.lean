/-! getters of setters, small facts on numbers; printed by tools/gen_simp.py -/
theorem mI_I (m : MM) (k j : Nat) (v : Int32) : mI (smI m k v) j = if j = k then v else mI m j := rfl
theorem mL_I (m : MM) (k : Nat) (v : Int32) : mL (smI m k v) = mL m := rfl
theorem mA_I (m : MM) (k : Nat) (v : Int32) : mA (smI m k v) = mA m := rfl
theorem mJ_I (m : MM) (k : Nat) (v : Int32) : mJ (smI m k v) = mJ m := rfl
theorem mI_L (m : MM) (k : Nat) (v : Int64) : mI (smL m k v) = mI m := rfl
theorem mL_L (m : MM) (k j : Nat) (v : Int64) : mL (smL m k v) j = if j = k then v else mL m j := rfl
theorem mA_L (m : MM) (k : Nat) (v : Int64) : mA (smL m k v) = mA m := rfl
theorem mJ_L (m : MM) (k : Nat) (v : Int64) : mJ (smL m k v) = mJ m := rfl
theorem mI_A (m : MM) (k : Nat) (v : (Nat → Int32)) : mI (smA m k v) = mI m := rfl
theorem mL_A (m : MM) (k : Nat) (v : (Nat → Int32)) : mL (smA m k v) = mL m := rfl
theorem mA_A (m : MM) (k j : Nat) (v : (Nat → Int32)) : mA (smA m k v) j = if j = k then v else mA m j := rfl
theorem mJ_A (m : MM) (k : Nat) (v : (Nat → Int32)) : mJ (smA m k v) = mJ m := rfl
theorem mI_J (m : MM) (k : Nat) (v : (Nat → Int64)) : mI (smJ m k v) = mI m := rfl
theorem mL_J (m : MM) (k : Nat) (v : (Nat → Int64)) : mL (smJ m k v) = mL m := rfl
theorem mA_J (m : MM) (k : Nat) (v : (Nat → Int64)) : mA (smJ m k v) = mA m := rfl
theorem mJ_J (m : MM) (k j : Nat) (v : (Nat → Int64)) : mJ (smJ m k v) j = if j = k then v else mJ m j := rfl
theorem cI_I (c : CC) (k i : Nat) (v : Int32) (k2 i2 : Nat) : cI (sI c k i v) k2 i2 = if k2 = k then (if i2 = i then v else cI c k2 i2) else cI c k2 i2 := rfl
theorem cL_I (c : CC) (k i : Nat) (v : Int32) : cL (sI c k i v) = cL c := rfl
theorem cA_I (c : CC) (k i : Nat) (v : Int32) : cA (sI c k i v) = cA c := rfl
theorem cJ_I (c : CC) (k i : Nat) (v : Int32) : cJ (sI c k i v) = cJ c := rfl
theorem cR_I (c : CC) (k i : Nat) (v : Int32) : cR (sI c k i v) = cR c := rfl
theorem cN_I (c : CC) (k i : Nat) (v : Int32) : cN (sI c k i v) = cN c := rfl
theorem cI_L (c : CC) (k i : Nat) (v : Int64) : cI (sL c k i v) = cI c := rfl
theorem cL_L (c : CC) (k i : Nat) (v : Int64) (k2 i2 : Nat) : cL (sL c k i v) k2 i2 = if k2 = k then (if i2 = i then v else cL c k2 i2) else cL c k2 i2 := rfl
theorem cA_L (c : CC) (k i : Nat) (v : Int64) : cA (sL c k i v) = cA c := rfl
theorem cJ_L (c : CC) (k i : Nat) (v : Int64) : cJ (sL c k i v) = cJ c := rfl
theorem cR_L (c : CC) (k i : Nat) (v : Int64) : cR (sL c k i v) = cR c := rfl
theorem cN_L (c : CC) (k i : Nat) (v : Int64) : cN (sL c k i v) = cN c := rfl
theorem cI_A (c : CC) (k i : Nat) (v : (Nat → Int32)) : cI (sA c k i v) = cI c := rfl
theorem cL_A (c : CC) (k i : Nat) (v : (Nat → Int32)) : cL (sA c k i v) = cL c := rfl
theorem cA_A (c : CC) (k i : Nat) (v : (Nat → Int32)) (k2 i2 : Nat) : cA (sA c k i v) k2 i2 = if k2 = k then (if i2 = i then v else cA c k2 i2) else cA c k2 i2 := rfl
theorem cJ_A (c : CC) (k i : Nat) (v : (Nat → Int32)) : cJ (sA c k i v) = cJ c := rfl
theorem cR_A (c : CC) (k i : Nat) (v : (Nat → Int32)) : cR (sA c k i v) = cR c := rfl
theorem cN_A (c : CC) (k i : Nat) (v : (Nat → Int32)) : cN (sA c k i v) = cN c := rfl
theorem cI_J (c : CC) (k i : Nat) (v : (Nat → Int64)) : cI (sJ c k i v) = cI c := rfl
theorem cL_J (c : CC) (k i : Nat) (v : (Nat → Int64)) : cL (sJ c k i v) = cL c := rfl
theorem cA_J (c : CC) (k i : Nat) (v : (Nat → Int64)) : cA (sJ c k i v) = cA c := rfl
theorem cJ_J (c : CC) (k i : Nat) (v : (Nat → Int64)) (k2 i2 : Nat) : cJ (sJ c k i v) k2 i2 = if k2 = k then (if i2 = i then v else cJ c k2 i2) else cJ c k2 i2 := rfl
theorem cR_J (c : CC) (k i : Nat) (v : (Nat → Int64)) : cR (sJ c k i v) = cR c := rfl
theorem cN_J (c : CC) (k i : Nat) (v : (Nat → Int64)) : cN (sJ c k i v) = cN c := rfl
theorem cI_R (c : CC) (k i : Nat) (v : (Nat → Option Nat)) : cI (sR c k i v) = cI c := rfl
theorem cL_R (c : CC) (k i : Nat) (v : (Nat → Option Nat)) : cL (sR c k i v) = cL c := rfl
theorem cA_R (c : CC) (k i : Nat) (v : (Nat → Option Nat)) : cA (sR c k i v) = cA c := rfl
theorem cJ_R (c : CC) (k i : Nat) (v : (Nat → Option Nat)) : cJ (sR c k i v) = cJ c := rfl
theorem cR_R (c : CC) (k i : Nat) (v : (Nat → Option Nat)) (k2 i2 : Nat) : cR (sR c k i v) k2 i2 = if k2 = k then (if i2 = i then v else cR c k2 i2) else cR c k2 i2 := rfl
theorem cN_R (c : CC) (k i : Nat) (v : (Nat → Option Nat)) : cN (sR c k i v) = cN c := rfl
theorem cI_N (c : CC) (k i : Nat) (v : Nat) : cI (sN c k i v) = cI c := rfl
theorem cL_N (c : CC) (k i : Nat) (v : Nat) : cL (sN c k i v) = cL c := rfl
theorem cA_N (c : CC) (k i : Nat) (v : Nat) : cA (sN c k i v) = cA c := rfl
theorem cJ_N (c : CC) (k i : Nat) (v : Nat) : cJ (sN c k i v) = cJ c := rfl
theorem cR_N (c : CC) (k i : Nat) (v : Nat) : cR (sN c k i v) = cR c := rfl
theorem cN_N (c : CC) (k i : Nat) (v : Nat) (k2 i2 : Nat) : cN (sN c k i v) k2 i2 = if k2 = k then (if i2 = i then v else cN c k2 i2) else cN c k2 i2 := rfl
theorem upd_at (f : Nat → Int32) (k j : Nat) (x : Int32) : upd f k x j = if j = k then x else f j := rfl
theorem updL_at (f : Nat → Int64) (k j : Nat) (x : Int64) : vp_updL f k x j = if j = k then x else f j := rfl
theorem nI_inc (t : Nat) : nI t + Int32.ofInt 1 = nI (t + 1) := nI_1 t
theorem nI_dec (t : Nat) : nI (t + 1) + Int32.ofInt (-1) = nI t := by rw [show Int32.ofInt (-1) = -1 from by decide]; exact pk_m1 t
theorem ix_lt {t N : Nat} (h : ¬ nI N ≤ nI t) (hN : N < 2 ^ 31 := by omega) (ht : t < 2 ^ 31 := by omega) : t < N := Nat.not_le.mp fun z => h ((nI_leI hN ht).mpr z)
theorem ix_ge {t N : Nat} (h : nI N ≤ nI t) (hN : N < 2 ^ 31 := by omega) (ht : t < 2 ^ 31 := by omega) : N ≤ t := (nI_leI hN ht).mp h
theorem ix_of {t n : Nat} (h : t < n) (hn : n < 2 ^ 31 := by omega) : Ix (nI t) t n := ⟨rfl, h, hn⟩
theorem ix_eq {x : Int32} {t n : Nat} (e : x = nI t) (h : t < n) (hn : n < 2 ^ 31 := by omega) : Ix x t n := ⟨e, h, hn⟩
theorem bz0 : (0 : Int32) = 0 ∨ (0 : Int32) = 1 := Or.inl rfl
theorem bz1 : (1 : Int32) = 0 ∨ (1 : Int32) = 1 := Or.inr rfl
