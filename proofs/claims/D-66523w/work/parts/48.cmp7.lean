/-! the component: clear; images: put, get, sum, isValid; printed by tools/m48.py -/
theorem dj_sub (n : Nat) : nI n - 1 = dj n := by
  rw [dj, show Int32.ofInt (-1) = -1 from by decide, Int32.sub_eq_add_neg]
def imx (x y : Int32) : Int32 := if x < y then y else x
theorem c_Dir_clear (l : Launch) (G : GG) (a : AD) (c : CC) (m : MM) (o : OO)   : CT l G y_Dir_clear (.code y_Dir_clear b_Dir_clear 2 none) 0 0 0 (Fyes G) (wld G a c m o) [.ref (a 3 0)] (fun r w2 => r = .inl none ∧ w2 = wld G a (cClr c) m o) := by
  refine CT.of (by decide) (Nat.le_of_ble_eq_true rfl) rfl ?_
  intro E hl hG hF C r hw hex hnm
  subst hl; subst hG
  have Fw : Cw E := fun a h => by rw [hF]; exact h
  have lp2 : ∀ (n t : Nat) , 101 - t < n → t ≤ 101 → AW E false 0 0 (wld (eG E) a (cClrP (cClrF c 8) t) m o) 23 [(0, .ref (a 3 0)), (1, .int (nI t))] [] := by
    intro n
    induction n with
    | zero => intro t  h1 h2; omega
    | succ n ih =>
      intro t  h1t h2t
      refine aw_iload_n (i := 1) C (dec D_Dir_clear rfl) rfl rfl ?_
      refine aw_bipush (v := 101) C (dec D_Dir_clear rfl) (by decide) ?_
      refine aw_icmp_ge (tgt := 56) C (dec D_Dir_clear rfl) (by decide) (fun hb => ?_) (fun hb => ?_)
      · try simp only [mI_I, mL_I, mA_I, mJ_I, mI_L, mL_L, mA_L, mJ_L, mI_A, mL_A, mA_A, mJ_A, mI_J, mL_J, mA_J, mJ_J, cI_I, cL_I, cA_I, cJ_I, cR_I, cN_I, cI_L, cL_L, cA_L, cJ_L, cR_L, cN_L, cI_A, cL_A, cA_A, cJ_A, cR_A, cN_A, cI_J, cL_J, cA_J, cJ_J, cR_J, cN_J, cI_R, cL_R, cA_R, cJ_R, cR_R, cN_R, cI_N, cL_N, cA_N, cJ_N, cR_N, cN_N, ↓reduceIte, Nat.reduceEqDiff, upd_at, updL_at] at hb
        have e9 : t = 101 := by have := ix_ge (N := 101) hb; omega
        subst e9
        refine aw_ret_v C r (dec D_Dir_clear rfl) (by decide) (by decide) ?_
        exact ⟨rfl, rfl⟩
      · try simp only [mI_I, mL_I, mA_I, mJ_I, mI_L, mL_L, mA_L, mJ_L, mI_A, mL_A, mA_A, mJ_A, mI_J, mL_J, mA_J, mJ_J, cI_I, cL_I, cA_I, cJ_I, cR_I, cN_I, cI_L, cL_L, cA_L, cJ_L, cR_L, cN_L, cI_A, cL_A, cA_A, cJ_A, cR_A, cN_A, cI_J, cL_J, cA_J, cJ_J, cR_J, cN_J, cI_R, cL_R, cA_R, cJ_R, cR_R, cN_R, cI_N, cL_N, cA_N, cJ_N, cR_N, cN_N, ↓reduceIte, Nat.reduceEqDiff, upd_at, updL_at] at hb
        have htt : t < 101 := ix_lt (N := 101) hb
        refine aw_aload_n (i := 0) C (dec D_Dir_clear rfl) rfl rfl ?_
        refine gf_Dir_17 C (dec D_Dir_clear rfl) ?_
        refine aw_iload_n (i := 1) C (dec D_Dir_clear rfl) rfl rfl ?_
        refine aw_iconst (v := 0) C (dec D_Dir_clear rfl) (by decide) ?_
        refine as_C7 C Fw t (dec D_Dir_clear rfl) (ix_of htt) ?_
        refine aw_aload_n (i := 0) C (dec D_Dir_clear rfl) rfl rfl ?_
        refine gf_Dir_21 C (dec D_Dir_clear rfl) ?_
        refine aw_iload_n (i := 1) C (dec D_Dir_clear rfl) rfl rfl ?_
        refine aw_iconst (v := 0) C (dec D_Dir_clear rfl) (by decide) ?_
        refine as_C8 C Fw t bz0 (dec D_Dir_clear rfl) (ix_of htt) ?_
        refine aw_aload_n (i := 0) C (dec D_Dir_clear rfl) rfl rfl ?_
        refine gf_Dir_25 C (dec D_Dir_clear rfl) ?_
        refine aw_iload_n (i := 1) C (dec D_Dir_clear rfl) rfl rfl ?_
        refine aw_iconst (v := 0) C (dec D_Dir_clear rfl) (by decide) ?_
        refine as_C9 C Fw t bz0 (dec D_Dir_clear rfl) (ix_of htt) ?_
        refine aw_iinc C (dec D_Dir_clear rfl) rfl (nI_inc t) (by decide) ?_
        refine aw_goto (tgt := 23) C (dec D_Dir_clear rfl) (by decide) ?_
        exact ih (t + 1) (by omega) (by omega)
  have lp1 : ∀ (n t : Nat) , 8 - t < n → t ≤ 8 → AW E false 0 0 (wld (eG E) a (cClrF c t) m o) 2 [(0, .ref (a 3 0)), (1, .int (nI t))] [] := by
    intro n
    induction n with
    | zero => intro t  h1 h2; omega
    | succ n ih =>
      intro t  h1t h2t
      refine aw_iload_n (i := 1) C (dec D_Dir_clear rfl) rfl rfl ?_
      refine aw_bipush (v := 8) C (dec D_Dir_clear rfl) (by decide) ?_
      refine aw_icmp_ge (tgt := 21) C (dec D_Dir_clear rfl) (by decide) (fun hb => ?_) (fun hb => ?_)
      · try simp only [mI_I, mL_I, mA_I, mJ_I, mI_L, mL_L, mA_L, mJ_L, mI_A, mL_A, mA_A, mJ_A, mI_J, mL_J, mA_J, mJ_J, cI_I, cL_I, cA_I, cJ_I, cR_I, cN_I, cI_L, cL_L, cA_L, cJ_L, cR_L, cN_L, cI_A, cL_A, cA_A, cJ_A, cR_A, cN_A, cI_J, cL_J, cA_J, cJ_J, cR_J, cN_J, cI_R, cL_R, cA_R, cJ_R, cR_R, cN_R, cI_N, cL_N, cA_N, cJ_N, cR_N, cN_N, ↓reduceIte, Nat.reduceEqDiff, upd_at, updL_at] at hb
        have e9 : t = 8 := by have := ix_ge (N := 8) hb; omega
        subst e9
        refine AW.ls [(0, .ref (a 3 0))] rfl ?_
        refine aw_iconst (v := 0) C (dec D_Dir_clear rfl) (by decide) ?_
        refine aw_istore_n (i := 1) C (dec D_Dir_clear rfl) rfl (by decide) ?_
        exact lp2 102 0 (by omega) (by omega)
      · try simp only [mI_I, mL_I, mA_I, mJ_I, mI_L, mL_L, mA_L, mJ_L, mI_A, mL_A, mA_A, mJ_A, mI_J, mL_J, mA_J, mJ_J, cI_I, cL_I, cA_I, cJ_I, cR_I, cN_I, cI_L, cL_L, cA_L, cJ_L, cR_L, cN_L, cI_A, cL_A, cA_A, cJ_A, cR_A, cN_A, cI_J, cL_J, cA_J, cJ_J, cR_J, cN_J, cI_R, cL_R, cA_R, cJ_R, cR_R, cN_R, cI_N, cL_N, cA_N, cJ_N, cR_N, cN_N, ↓reduceIte, Nat.reduceEqDiff, upd_at, updL_at] at hb
        have htt : t < 8 := ix_lt (N := 8) hb
        refine aw_aload_n (i := 0) C (dec D_Dir_clear rfl) rfl rfl ?_
        refine gf_Dir_11 C (dec D_Dir_clear rfl) ?_
        refine aw_iload_n (i := 1) C (dec D_Dir_clear rfl) rfl rfl ?_
        refine aw_null C (dec D_Dir_clear rfl) ?_
        refine as_C6N C Fw t (dec D_Dir_clear rfl) (ix_of htt) ?_
        refine aw_iinc C (dec D_Dir_clear rfl) rfl (nI_inc t) (by decide) ?_
        refine aw_goto (tgt := 2) C (dec D_Dir_clear rfl) (by decide) ?_
        exact ih (t + 1) (by omega) (by omega)
  refine aw_iconst (v := 0) C (dec D_Dir_clear rfl) (by decide) ?_
  refine aw_istore_n (i := 1) C (dec D_Dir_clear rfl) rfl (by decide) ?_
  exact AW.impure (lp1 9 0 (by omega) (by omega))
theorem c_Img_put (l : Launch) (G : GG) (a : AD) (c : CC) (m : MM) (o : OO) (i p : Nat) (v : Int64) (n : Nat) (hi : i < 2) (hn : p + n ≤ 160 ∧ n ≤ 8) : CT l G y_Img_put (.code y_Img_put b_Img_put 6 none) 0 0 0 (Fyes G) (wld G a c m o) [.ref (a 11 i), .int (nI p), .long v, .int (nI n)] (fun r w2 => r = .inl none ∧ w2 = wld G a (sA c 12 i (pB (cA c 12 i) p v n)) m o) := by
  refine CT.of (by decide) (Nat.le_of_ble_eq_true rfl) rfl ?_
  intro E hl hG hF C r hw hex hnm
  subst hl; subst hG
  have Fw : Cw E := fun a h => by rw [hF]; exact h
  have lp : ∀ (nx t : Nat) , n - t < nx → t ≤ n → AW E false 0 0 (wld (eG E) a (sA c 12 i (pB (cA c 12 i) p v t)) m o) 3 [(0, .ref (a 11 i)), (1, .int (nI p)), (2, .long v), (4, .int (nI n)), (5, .int (nI t))] [] := by
    intro nx
    induction nx with
    | zero => intro t  h1 h2; omega
    | succ nx ihx =>
      intro t  h1t h2t
      refine aw_iload C (dec D_Img_put rfl) rfl ?_
      refine aw_iload C (dec D_Img_put rfl) rfl ?_
      refine aw_icmp_ge (tgt := 37) C (dec D_Img_put rfl) (by decide) (fun hb => ?_) (fun hb => ?_)
      · try simp only [mI_I, mL_I, mA_I, mJ_I, mI_L, mL_L, mA_L, mJ_L, mI_A, mL_A, mA_A, mJ_A, mI_J, mL_J, mA_J, mJ_J, cI_I, cL_I, cA_I, cJ_I, cR_I, cN_I, cI_L, cL_L, cA_L, cJ_L, cR_L, cN_L, cI_A, cL_A, cA_A, cJ_A, cR_A, cN_A, cI_J, cL_J, cA_J, cJ_J, cR_J, cN_J, cI_R, cL_R, cA_R, cJ_R, cR_R, cN_R, cI_N, cL_N, cA_N, cJ_N, cR_N, cN_N, ↓reduceIte, Nat.reduceEqDiff, upd_at, updL_at] at hb
        have e9 : t = n := by have := ix_ge (N := n) hb; omega
        subst e9
        refine aw_ret_v C r (dec D_Img_put rfl) (by decide) (by decide) ?_
        exact ⟨rfl, rfl⟩
      · try simp only [mI_I, mL_I, mA_I, mJ_I, mI_L, mL_L, mA_L, mJ_L, mI_A, mL_A, mA_A, mJ_A, mI_J, mL_J, mA_J, mJ_J, cI_I, cL_I, cA_I, cJ_I, cR_I, cN_I, cI_L, cL_L, cA_L, cJ_L, cR_L, cN_L, cI_A, cL_A, cA_A, cJ_A, cR_A, cN_A, cI_J, cL_J, cA_J, cJ_J, cR_J, cN_J, cI_R, cL_R, cA_R, cJ_R, cR_R, cN_R, cI_N, cL_N, cA_N, cJ_N, cR_N, cN_N, ↓reduceIte, Nat.reduceEqDiff, upd_at, updL_at] at hb
        have htt : t < n := ix_lt (N := n) hb
        refine aw_aload_n (i := 0) C (dec D_Img_put rfl) rfl rfl ?_
        refine gf_Img_9 C hi (dec D_Img_put rfl) ?_
        refine aw_iload_n (i := 1) C (dec D_Img_put rfl) rfl rfl ?_
        refine aw_iload C (dec D_Img_put rfl) rfl ?_
        refine aw_iadd C (dec D_Img_put rfl) ?_
        refine aw_lload_n (i := 2) C (dec D_Img_put rfl) rfl rfl ?_
        refine aw_bipush (v := 8) C (dec D_Img_put rfl) (by decide) ?_
        refine aw_iload C (dec D_Img_put rfl) rfl ?_
        refine aw_imul C (dec D_Img_put rfl) ?_
        refine aw_lushr C (dec D_Img_put rfl) ?_
        refine aw_l2i C (dec D_Img_put rfl) ?_
        refine aw_sipush (v := 255) C (dec D_Img_put rfl) (by decide) ?_
        refine aw_iand C (dec D_Img_put rfl) ?_
        rw [show (v.toUInt64 >>> ((8 * nI t).toInt64.toUInt64 &&& Int64.toUInt64 63)).toInt64.toInt32 &&& 255 = mByte v t from cByte_eq v (by omega)]
        refine as_C12 C Fw (by exact hi) (p + t) (dec D_Img_put rfl) (ix_eq (nI_add p t) (by omega)) ?_
        rw [cA_self, sA_sA]
        refine aw_iinc C (dec D_Img_put rfl) rfl (nI_inc t) (by decide) ?_
        refine aw_goto (tgt := 3) C (dec D_Img_put rfl) (by decide) ?_
        exact ihx (t + 1) (by omega) (by omega)
  refine aw_iconst (v := 0) C (dec D_Img_put rfl) (by decide) ?_
  refine aw_istore C (dec D_Img_put rfl) (by decide) ?_
  have k9 := lp (n + 1) 0 (by omega) (by omega)
  rw [show sA c 12 i (pB (cA c 12 i) p v 0) = c from sA_id c 12 i] at k9
  exact AW.impure k9
theorem c_Img_get (l : Launch) (G : GG) (a : AD) (c : CC) (m : MM) (o : OO) (i p n : Nat) (hi : i < 2) (hn : p + n ≤ 160) : CT l G y_Img_get (.code y_Img_get b_Img_get 5 (some .int)) 0 0 0 Fno (wld G a c m o) [.ref (a 11 i), .int (nI p), .int (nI n)] (fun r w2 => r = .inl (some (.int (gDn (cA c 12 i) p n 0))) ∧ w2 = wld G a c m o) := by
  refine CT.of (by decide) (Nat.le_of_ble_eq_true rfl) rfl ?_
  intro E hl hG hF C r hw hex hnm
  subst hl; subst hG
  have lpd : ∀ (s : Nat) (x : Int32), s ≤ n → gDn (cA c 12 i) p s x = gDn (cA c 12 i) p n 0 → AW E true 0 0 (wld (eG E) a c m o) 7 [(0, .ref (a 11 i)), (1, .int (nI p)), (2, .int (nI n)), (3, .int x), (4, .int (dj s))] [] := by
    intro s
    induction s with
    | zero =>
      intro x h2s hx
      refine aw_iload C (dec D_Img_get rfl) rfl ?_
      refine aw_if_lt (tgt := 33) C (dec D_Img_get rfl) (by decide) (fun hd => ?_) (fun hd => ?_)
      · try simp only [mI_I, mL_I, mA_I, mJ_I, mI_L, mL_L, mA_L, mJ_L, mI_A, mL_A, mA_A, mJ_A, mI_J, mL_J, mA_J, mJ_J, cI_I, cL_I, cA_I, cJ_I, cR_I, cN_I, cI_L, cL_L, cA_L, cJ_L, cR_L, cN_L, cI_A, cL_A, cA_A, cJ_A, cR_A, cN_A, cI_J, cL_J, cA_J, cJ_J, cR_J, cN_J, cI_R, cL_R, cA_R, cJ_R, cR_R, cN_R, cI_N, cL_N, cA_N, cJ_N, cR_N, cN_N, ↓reduceIte, Nat.reduceEqDiff, upd_at, updL_at] at hd
        refine aw_iload_n (i := 3) C (dec D_Img_get rfl) rfl rfl ?_
        refine aw_ret_i C r (dec D_Img_get rfl) rfl (by decide) (by decide) ?_
        exact ⟨by rw [← hx]; rfl, rfl⟩
      · try simp only [mI_I, mL_I, mA_I, mJ_I, mI_L, mL_L, mA_L, mJ_L, mI_A, mL_A, mA_A, mJ_A, mI_J, mL_J, mA_J, mJ_J, cI_I, cL_I, cA_I, cJ_I, cR_I, cN_I, cI_L, cL_L, cA_L, cJ_L, cR_L, cN_L, cI_A, cL_A, cA_A, cJ_A, cR_A, cN_A, cI_J, cL_J, cA_J, cJ_J, cR_J, cN_J, cI_R, cL_R, cA_R, cJ_R, cR_R, cN_R, cI_N, cL_N, cA_N, cJ_N, cR_N, cN_N, ↓reduceIte, Nat.reduceEqDiff, upd_at, updL_at] at hd
        exact absurd (by decide) hd
    | succ s ihd =>
      intro x h2s hx
      rw [dj_s]
      refine aw_iload C (dec D_Img_get rfl) rfl ?_
      refine aw_if_lt (tgt := 33) C (dec D_Img_get rfl) (by decide) (fun hd => ?_) (fun hd => ?_)
      · try simp only [mI_I, mL_I, mA_I, mJ_I, mI_L, mL_L, mA_L, mJ_L, mI_A, mL_A, mA_A, mJ_A, mI_J, mL_J, mA_J, mJ_J, cI_I, cL_I, cA_I, cJ_I, cR_I, cN_I, cI_L, cL_L, cA_L, cJ_L, cR_L, cN_L, cI_A, cL_A, cA_A, cJ_A, cR_A, cN_A, cI_J, cL_J, cA_J, cJ_J, cR_J, cN_J, cI_R, cL_R, cA_R, cJ_R, cR_R, cN_R, cI_N, cL_N, cA_N, cJ_N, cR_N, cN_N, ↓reduceIte, Nat.reduceEqDiff, upd_at, updL_at] at hd
        exact absurd hd (nI_pos (by omega))
      · try simp only [mI_I, mL_I, mA_I, mJ_I, mI_L, mL_L, mA_L, mJ_L, mI_A, mL_A, mA_A, mJ_A, mI_J, mL_J, mA_J, mJ_J, cI_I, cL_I, cA_I, cJ_I, cR_I, cN_I, cI_L, cL_L, cA_L, cJ_L, cR_L, cN_L, cI_A, cL_A, cA_A, cJ_A, cR_A, cN_A, cI_J, cL_J, cA_J, cJ_J, cR_J, cN_J, cI_R, cL_R, cA_R, cJ_R, cR_R, cN_R, cI_N, cL_N, cA_N, cJ_N, cR_N, cN_N, ↓reduceIte, Nat.reduceEqDiff, upd_at, updL_at] at hd
        refine aw_iload_n (i := 3) C (dec D_Img_get rfl) rfl rfl ?_
        refine aw_bipush (v := 8) C (dec D_Img_get rfl) (by decide) ?_
        refine aw_ishl C (dec D_Img_get rfl) ?_
        refine aw_aload_n (i := 0) C (dec D_Img_get rfl) rfl rfl ?_
        refine gf_Img_9 C hi (dec D_Img_get rfl) ?_
        refine aw_iload_n (i := 1) C (dec D_Img_get rfl) rfl rfl ?_
        refine aw_iload C (dec D_Img_get rfl) rfl ?_
        refine aw_iadd C (dec D_Img_get rfl) ?_
        refine al_C12 C hi (p + s) (dec D_Img_get rfl) (ix_eq (nI_add p s) (by omega)) ?_
        refine aw_ior C (dec D_Img_get rfl) ?_
        refine aw_istore_n (i := 3) C (dec D_Img_get rfl) rfl (by decide) ?_
        refine aw_iinc C (dec D_Img_get rfl) rfl rfl (by decide) ?_
        refine aw_goto (tgt := 7) C (dec D_Img_get rfl) (by decide) ?_
        refine AW.ls [(0, .ref (a 11 i)), (1, .int (nI p)), (2, .int (nI n)), (3, .int ((x <<< (8 &&& 31)) ||| cA c 12 i (p + s))), (4, .int (dj s))] rfl ?_
        exact ihd _ (by omega) hx
  refine aw_iconst (v := 0) C (dec D_Img_get rfl) (by decide) ?_
  refine aw_istore_n (i := 3) C (dec D_Img_get rfl) rfl (by decide) ?_
  refine aw_iload_n (i := 2) C (dec D_Img_get rfl) rfl rfl ?_
  refine aw_iconst (v := 1) C (dec D_Img_get rfl) (by decide) ?_
  refine aw_isub C (dec D_Img_get rfl) ?_
  rw [dj_sub]
  refine aw_istore C (dec D_Img_get rfl) (by decide) ?_
  refine AW.ls [(0, .ref (a 11 i)), (1, .int (nI p)), (2, .int (nI n)), (3, .int 0), (4, .int (dj n))] rfl ?_
  exact lpd n 0 (by omega) rfl
theorem c_Img_sum (l : Launch) (G : GG) (a : AD) (c : CC) (m : MM) (o : OO) (i : Nat) (hi : i < 2) : CT l G y_Img_sum (.code y_Img_sum b_Img_sum 3 (some .int)) 0 0 0 Fno (wld G a c m o) [.ref (a 11 i)] (fun r w2 => r = .inl (some (.int (cSum (cA c 12 i)))) ∧ w2 = wld G a c m o) := by
  refine CT.of (by decide) (Nat.le_of_ble_eq_true rfl) rfl ?_
  intro E hl hG hF C r hw hex hnm
  subst hl; subst hG
  have lp : ∀ (n t : Nat) , 158 - t < n → t ≤ 158 → AW E true 0 0 (wld (eG E) a c m o) 4 [(0, .ref (a 11 i)), (1, .int (sN1 (cA c 12 i) t)), (2, .int (nI t))] [] := by
    intro n
    induction n with
    | zero => intro t  h1 h2; omega
    | succ n ih =>
      intro t  h1t h2t
      refine aw_iload_n (i := 2) C (dec D_Img_sum rfl) rfl rfl ?_
      refine aw_sipush (v := 158) C (dec D_Img_sum rfl) (by decide) ?_
      refine aw_icmp_ge (tgt := 26) C (dec D_Img_sum rfl) (by decide) (fun hb => ?_) (fun hb => ?_)
      · try simp only [mI_I, mL_I, mA_I, mJ_I, mI_L, mL_L, mA_L, mJ_L, mI_A, mL_A, mA_A, mJ_A, mI_J, mL_J, mA_J, mJ_J, cI_I, cL_I, cA_I, cJ_I, cR_I, cN_I, cI_L, cL_L, cA_L, cJ_L, cR_L, cN_L, cI_A, cL_A, cA_A, cJ_A, cR_A, cN_A, cI_J, cL_J, cA_J, cJ_J, cR_J, cN_J, cI_R, cL_R, cA_R, cJ_R, cR_R, cN_R, cI_N, cL_N, cA_N, cJ_N, cR_N, cN_N, ↓reduceIte, Nat.reduceEqDiff, upd_at, updL_at] at hb
        have e9 : t = 158 := by have := ix_ge (N := 158) hb; omega
        subst e9
        refine aw_iload_n (i := 1) C (dec D_Img_sum rfl) rfl rfl ?_
        refine aw_ldc (v := 65535) C (dec D_Img_sum rfl) (List.mem_of_getElem? (i := 363) (by decide +kernel)) ?_
        refine aw_iand C (dec D_Img_sum rfl) ?_
        refine aw_ret_i C r (dec D_Img_sum rfl) rfl (by decide) (by decide) ?_
        exact ⟨by rw [cSum], rfl⟩
      · try simp only [mI_I, mL_I, mA_I, mJ_I, mI_L, mL_L, mA_L, mJ_L, mI_A, mL_A, mA_A, mJ_A, mI_J, mL_J, mA_J, mJ_J, cI_I, cL_I, cA_I, cJ_I, cR_I, cN_I, cI_L, cL_L, cA_L, cJ_L, cR_L, cN_L, cI_A, cL_A, cA_A, cJ_A, cR_A, cN_A, cI_J, cL_J, cA_J, cJ_J, cR_J, cN_J, cI_R, cL_R, cA_R, cJ_R, cR_R, cN_R, cI_N, cL_N, cA_N, cJ_N, cR_N, cN_N, ↓reduceIte, Nat.reduceEqDiff, upd_at, updL_at] at hb
        have htt : t < 158 := ix_lt (N := 158) hb
        refine aw_iload_n (i := 1) C (dec D_Img_sum rfl) rfl rfl ?_
        refine aw_aload_n (i := 0) C (dec D_Img_sum rfl) rfl rfl ?_
        refine gf_Img_9 C hi (dec D_Img_sum rfl) ?_
        refine aw_iload_n (i := 2) C (dec D_Img_sum rfl) rfl rfl ?_
        refine al_C12 C hi t (dec D_Img_sum rfl) (ix_eq rfl (by omega)) ?_
        refine aw_iadd C (dec D_Img_sum rfl) ?_
        refine aw_istore_n (i := 1) C (dec D_Img_sum rfl) rfl (by decide) ?_
        refine aw_iinc C (dec D_Img_sum rfl) rfl (nI_inc t) (by decide) ?_
        refine aw_goto (tgt := 4) C (dec D_Img_sum rfl) (by decide) ?_
        exact ih (t + 1) (by omega) (by omega)
  refine aw_iconst (v := 1) C (dec D_Img_sum rfl) (by decide) ?_
  refine aw_istore_n (i := 1) C (dec D_Img_sum rfl) rfl (by decide) ?_
  refine aw_iconst (v := 0) C (dec D_Img_sum rfl) (by decide) ?_
  refine aw_istore_n (i := 2) C (dec D_Img_sum rfl) rfl (by decide) ?_
  exact lp 159 0 (by omega) (by omega)
theorem c_Img_isValid (l : Launch) (G : GG) (a : AD) (c : CC) (m : MM) (o : OO) (i : Nat) (hi : i < 2) : CT l G y_Img_isValid (.code y_Img_isValid b_Img_isValid 1 (some .boolean)) 1 0 0 Fno (wld G a c m o) [.ref (a 11 i)] (fun r w2 => r = .inl (some (.int (if gDn (cA c 12 i) 158 2 0 = cSum (cA c 12 i) then 1 else 0))) ∧ w2 = wld G a c m o) := by
  refine CT.of (by decide) (Nat.le_of_ble_eq_true rfl) rfl ?_
  intro E hl hG hF C r hw hex hnm
  subst hl; subst hG
  refine aw_aload_n (i := 0) C (dec D_Img_isValid rfl) rfl rfl ?_
  refine aw_sipush (v := 158) C (dec D_Img_isValid rfl) (by decide) ?_
  refine aw_iconst (v := 2) C (dec D_Img_isValid rfl) (by decide) ?_
  refine aw_cv C ci_Img_16 [_, _] (c_Img_get _ _ _ _ _ _ i 158 2 hi (by omega)) (dec D_Img_isValid rfl) (rcI hi) rfl fpP (Nat.le_of_ble_eq_true rfl) (by decide) ⟨by decide, by decide⟩ (fun v w2 hp => ?_) (fun _ _ h => by cases h.1)
  obtain ⟨hv, rfl⟩ := hp
  cases hv
  refine aw_aload_n (i := 0) C (dec D_Img_isValid rfl) rfl rfl ?_
  refine aw_cv C ci_Img_20 [] (c_Img_sum _ _ _ _ _ _ i hi) (dec D_Img_isValid rfl) (rcI hi) rfl fpP (Nat.le_of_ble_eq_true rfl) (by decide) ⟨by decide, by decide⟩ (fun v w2 hp => ?_) (fun _ _ h => by cases h.1)
  obtain ⟨hv, rfl⟩ := hp
  cases hv
  refine aw_icmp_ne (tgt := 19) C (dec D_Img_isValid rfl) (by decide) (fun h12 => ?_) (fun h12 => ?_)
  · try simp only [mI_I, mL_I, mA_I, mJ_I, mI_L, mL_L, mA_L, mJ_L, mI_A, mL_A, mA_A, mJ_A, mI_J, mL_J, mA_J, mJ_J, cI_I, cL_I, cA_I, cJ_I, cR_I, cN_I, cI_L, cL_L, cA_L, cJ_L, cR_L, cN_L, cI_A, cL_A, cA_A, cJ_A, cR_A, cN_A, cI_J, cL_J, cA_J, cJ_J, cR_J, cN_J, cI_R, cL_R, cA_R, cJ_R, cR_R, cN_R, cI_N, cL_N, cA_N, cJ_N, cR_N, cN_N, ↓reduceIte, Nat.reduceEqDiff, upd_at, updL_at] at h12
    refine aw_iconst (v := 0) C (dec D_Img_isValid rfl) (by decide) ?_
    refine aw_ret_i C r (dec D_Img_isValid rfl) rfl (by decide) (by decide) ?_
    refine ⟨?_, ?_⟩ <;> first | with_reducible rfl | (simp [mI_I, mL_I, mA_I, mJ_I, mI_L, mL_L, mA_L, mJ_L, mI_A, mL_A, mA_A, mJ_A, mI_J, mL_J, mA_J, mJ_J, cI_I, cL_I, cA_I, cJ_I, cR_I, cN_I, cI_L, cL_L, cA_L, cJ_L, cR_L, cN_L, cI_A, cL_A, cA_A, cJ_A, cR_A, cN_A, cI_J, cL_J, cA_J, cJ_J, cR_J, cN_J, cI_R, cL_R, cA_R, cJ_R, cR_R, cN_R, cI_N, cL_N, cA_N, cJ_N, cR_N, cN_N, ↓reduceIte, Nat.reduceEqDiff, upd_at, updL_at, h12]; done) | (simp [mI_I, mL_I, mA_I, mJ_I, mI_L, mL_L, mA_L, mJ_L, mI_A, mL_A, mA_A, mJ_A, mI_J, mL_J, mA_J, mJ_J, cI_I, cL_I, cA_I, cJ_I, cR_I, cN_I, cI_L, cL_L, cA_L, cJ_L, cR_L, cN_L, cI_A, cL_A, cA_A, cJ_A, cR_A, cN_A, cI_J, cL_J, cA_J, cJ_J, cR_J, cN_J, cI_R, cL_R, cA_R, cJ_R, cR_R, cN_R, cI_N, cL_N, cA_N, cJ_N, cR_N, cN_N, ↓reduceIte, Nat.reduceEqDiff, upd_at, updL_at, h12]; rfl)
  · try simp only [mI_I, mL_I, mA_I, mJ_I, mI_L, mL_L, mA_L, mJ_L, mI_A, mL_A, mA_A, mJ_A, mI_J, mL_J, mA_J, mJ_J, cI_I, cL_I, cA_I, cJ_I, cR_I, cN_I, cI_L, cL_L, cA_L, cJ_L, cR_L, cN_L, cI_A, cL_A, cA_A, cJ_A, cR_A, cN_A, cI_J, cL_J, cA_J, cJ_J, cR_J, cN_J, cI_R, cL_R, cA_R, cJ_R, cR_R, cN_R, cI_N, cL_N, cA_N, cJ_N, cR_N, cN_N, ↓reduceIte, Nat.reduceEqDiff, upd_at, updL_at] at h12
    refine aw_iconst (v := 1) C (dec D_Img_isValid rfl) (by decide) ?_
    refine aw_goto (tgt := 20) C (dec D_Img_isValid rfl) (by decide) ?_
    refine aw_ret_i C r (dec D_Img_isValid rfl) rfl (by decide) (by decide) ?_
    refine ⟨?_, ?_⟩ <;> first | with_reducible rfl | (simp [mI_I, mL_I, mA_I, mJ_I, mI_L, mL_L, mA_L, mJ_L, mI_A, mL_A, mA_A, mJ_A, mI_J, mL_J, mA_J, mJ_J, cI_I, cL_I, cA_I, cJ_I, cR_I, cN_I, cI_L, cL_L, cA_L, cJ_L, cR_L, cN_L, cI_A, cL_A, cA_A, cJ_A, cR_A, cN_A, cI_J, cL_J, cA_J, cJ_J, cR_J, cN_J, cI_R, cL_R, cA_R, cJ_R, cR_R, cN_R, cI_N, cL_N, cA_N, cJ_N, cR_N, cN_N, ↓reduceIte, Nat.reduceEqDiff, upd_at, updL_at, h12]; done) | (simp [mI_I, mL_I, mA_I, mJ_I, mI_L, mL_L, mA_L, mJ_L, mI_A, mL_A, mA_A, mJ_A, mI_J, mL_J, mA_J, mJ_J, cI_I, cL_I, cA_I, cJ_I, cR_I, cN_I, cI_L, cL_L, cA_L, cJ_L, cR_L, cN_L, cI_A, cL_A, cA_A, cJ_A, cR_A, cN_A, cI_J, cL_J, cA_J, cJ_J, cR_J, cN_J, cI_R, cL_R, cA_R, cJ_R, cR_R, cN_R, cI_N, cL_N, cA_N, cJ_N, cR_N, cN_N, ↓reduceIte, Nat.reduceEqDiff, upd_at, updL_at, h12]; rfl)
theorem c_Math_max (l : Launch) (G : GG) (a : AD) (c : CC) (m : MM) (o : OO) (x y : Int32)  : CT l G y_Math_max (.code y_Math_max b_Math_max 2 (some .int)) 0 0 0 Fno (wld G a c m o) [.int x, .int y] (fun r w2 => r = .inl (some (.int (imx x y))) ∧ w2 = wld G a c m o) := by
  refine CT.ofF (by decide +kernel) (Nat.le_of_ble_eq_true rfl) rfl ?_
  intro E hl hG hF C r hw hex hnm
  subst hl; subst hG
  refine aw_iload_n (i := 0) C (dec D_Math_max rfl) rfl rfl ?_
  refine aw_iload_n (i := 1) C (dec D_Math_max rfl) rfl rfl ?_
  refine aw_icmp_lt (tgt := 9) C (dec D_Math_max rfl) (by decide) (fun h2 => ?_) (fun h2 => ?_)
  · try simp only [mI_I, mL_I, mA_I, mJ_I, mI_L, mL_L, mA_L, mJ_L, mI_A, mL_A, mA_A, mJ_A, mI_J, mL_J, mA_J, mJ_J, cI_I, cL_I, cA_I, cJ_I, cR_I, cN_I, cI_L, cL_L, cA_L, cJ_L, cR_L, cN_L, cI_A, cL_A, cA_A, cJ_A, cR_A, cN_A, cI_J, cL_J, cA_J, cJ_J, cR_J, cN_J, cI_R, cL_R, cA_R, cJ_R, cR_R, cN_R, cI_N, cL_N, cA_N, cJ_N, cR_N, cN_N, ↓reduceIte, Nat.reduceEqDiff, upd_at, updL_at] at h2
    refine aw_iload_n (i := 1) C (dec D_Math_max rfl) rfl rfl ?_
    refine aw_ret_i C r (dec D_Math_max rfl) rfl (by decide) (by decide) ?_
    refine ⟨?_, ?_⟩ <;> first | with_reducible rfl | (simp [mI_I, mL_I, mA_I, mJ_I, mI_L, mL_L, mA_L, mJ_L, mI_A, mL_A, mA_A, mJ_A, mI_J, mL_J, mA_J, mJ_J, cI_I, cL_I, cA_I, cJ_I, cR_I, cN_I, cI_L, cL_L, cA_L, cJ_L, cR_L, cN_L, cI_A, cL_A, cA_A, cJ_A, cR_A, cN_A, cI_J, cL_J, cA_J, cJ_J, cR_J, cN_J, cI_R, cL_R, cA_R, cJ_R, cR_R, cN_R, cI_N, cL_N, cA_N, cJ_N, cR_N, cN_N, ↓reduceIte, Nat.reduceEqDiff, upd_at, updL_at, h2, imx]; done) | (simp [mI_I, mL_I, mA_I, mJ_I, mI_L, mL_L, mA_L, mJ_L, mI_A, mL_A, mA_A, mJ_A, mI_J, mL_J, mA_J, mJ_J, cI_I, cL_I, cA_I, cJ_I, cR_I, cN_I, cI_L, cL_L, cA_L, cJ_L, cR_L, cN_L, cI_A, cL_A, cA_A, cJ_A, cR_A, cN_A, cI_J, cL_J, cA_J, cJ_J, cR_J, cN_J, cI_R, cL_R, cA_R, cJ_R, cR_R, cN_R, cI_N, cL_N, cA_N, cJ_N, cR_N, cN_N, ↓reduceIte, Nat.reduceEqDiff, upd_at, updL_at, h2, imx]; rfl)
  · try simp only [mI_I, mL_I, mA_I, mJ_I, mI_L, mL_L, mA_L, mJ_L, mI_A, mL_A, mA_A, mJ_A, mI_J, mL_J, mA_J, mJ_J, cI_I, cL_I, cA_I, cJ_I, cR_I, cN_I, cI_L, cL_L, cA_L, cJ_L, cR_L, cN_L, cI_A, cL_A, cA_A, cJ_A, cR_A, cN_A, cI_J, cL_J, cA_J, cJ_J, cR_J, cN_J, cI_R, cL_R, cA_R, cJ_R, cR_R, cN_R, cI_N, cL_N, cA_N, cJ_N, cR_N, cN_N, ↓reduceIte, Nat.reduceEqDiff, upd_at, updL_at] at h2
    refine aw_iload_n (i := 0) C (dec D_Math_max rfl) rfl rfl ?_
    refine aw_goto (tgt := 10) C (dec D_Math_max rfl) (by decide) ?_
    refine aw_ret_i C r (dec D_Math_max rfl) rfl (by decide) (by decide) ?_
    refine ⟨?_, ?_⟩ <;> first | with_reducible rfl | (simp [mI_I, mL_I, mA_I, mJ_I, mI_L, mL_L, mA_L, mJ_L, mI_A, mL_A, mA_A, mJ_A, mI_J, mL_J, mA_J, mJ_J, cI_I, cL_I, cA_I, cJ_I, cR_I, cN_I, cI_L, cL_L, cA_L, cJ_L, cR_L, cN_L, cI_A, cL_A, cA_A, cJ_A, cR_A, cN_A, cI_J, cL_J, cA_J, cJ_J, cR_J, cN_J, cI_R, cL_R, cA_R, cJ_R, cR_R, cN_R, cI_N, cL_N, cA_N, cJ_N, cR_N, cN_N, ↓reduceIte, Nat.reduceEqDiff, upd_at, updL_at, h2, imx]; done) | (simp [mI_I, mL_I, mA_I, mJ_I, mI_L, mL_L, mA_L, mJ_L, mI_A, mL_A, mA_A, mJ_A, mI_J, mL_J, mA_J, mJ_J, cI_I, cL_I, cA_I, cJ_I, cR_I, cN_I, cI_L, cL_L, cA_L, cJ_L, cR_L, cN_L, cI_A, cL_A, cA_A, cJ_A, cR_A, cN_A, cI_J, cL_J, cA_J, cJ_J, cR_J, cN_J, cI_R, cL_R, cA_R, cJ_R, cR_R, cN_R, cI_N, cL_N, cA_N, cJ_N, cR_N, cN_N, ↓reduceIte, Nat.reduceEqDiff, upd_at, updL_at, h2, imx]; rfl)
