/-! the box: fileAt, numberOf, forget; printed by tools/m58.py -/
/-- the files are fo -/
def FOk (c : CC) (fo : Nat → Option Nat) : Prop := ∀ f, f < 8 → cR c 6 0 f = fo f ∧ ∀ j, fo f = some j → j < cN c 17 0
def cNm (c : CC) (fo : Nat → Option Nat) (x : Int32) (s : Nat) (r : Int32) : Int32 := match fo s with
  | none => r
  | some j => if cI c 10 j = x then nI s else r
def cNumD (c : CC) (fo : Nat → Option Nat) (x : Int32) : Nat → Int32 → Int32
  | 0, r => r
  | s + 1, r => cNumD c fo x s (cNm c fo x s r)
def cNum (c : CC) (fo : Nat → Option Nat) (x : Int32) : Int32 := cNumD c fo x 8 (-1)
theorem c_Box_numberOf (l : Launch) (G : GG) (a : AD) (c : CC) (m : MM) (o : OO) (x : Int32) (fo : Nat → Option Nat) (hF9 : FOk c fo) : CT l G y_Box_numberOf (.code y_Box_numberOf b_Box_numberOf 4 (some .int)) 0 0 0 Fno (wld G a c m o) [.ref (a 0 0), .int x] (fun r w2 => r = .inl (some (.int (cNum c fo x))) ∧ w2 = wld G a c m o) := by
  refine CT.of (by decide) (Nat.le_of_ble_eq_true rfl) rfl ?_
  intro E hl hG hF C r hw hex hnm
  subst hl; subst hG
  have lpd : ∀ (s : Nat) (y : Int32), s ≤ 8 → cNumD c fo x s y = cNum c fo x → AW E true 0 0 (wld (eG E) a c m o) 5 [(0, .ref (a 0 0)), (1, .int x), (2, .int y), (3, .int (dj s))] [] := by
    intro s
    induction s with
    | zero =>
      intro y h2s hx
      refine aw_iload_n (i := 3) C (dec D_Box_numberOf rfl) rfl rfl ?_
      refine aw_if_lt (tgt := 49) C (dec D_Box_numberOf rfl) (by decide) (fun hd => ?_) (fun hd => ?_)
      · try simp only [mI_I, mL_I, mA_I, mJ_I, mI_L, mL_L, mA_L, mJ_L, mI_A, mL_A, mA_A, mJ_A, mI_J, mL_J, mA_J, mJ_J, cI_I, cL_I, cA_I, cJ_I, cR_I, cN_I, cI_L, cL_L, cA_L, cJ_L, cR_L, cN_L, cI_A, cL_A, cA_A, cJ_A, cR_A, cN_A, cI_J, cL_J, cA_J, cJ_J, cR_J, cN_J, cI_R, cL_R, cA_R, cJ_R, cR_R, cN_R, cI_N, cL_N, cA_N, cJ_N, cR_N, cN_N, ↓reduceIte, Nat.reduceEqDiff, upd_at, updL_at] at hd
        refine aw_iload_n (i := 2) C (dec D_Box_numberOf rfl) rfl rfl ?_
        refine aw_ret_i C r (dec D_Box_numberOf rfl) rfl (by decide) (by decide) ?_
        exact ⟨by rw [← hx]; rfl, rfl⟩
      · try simp only [mI_I, mL_I, mA_I, mJ_I, mI_L, mL_L, mA_L, mJ_L, mI_A, mL_A, mA_A, mJ_A, mI_J, mL_J, mA_J, mJ_J, cI_I, cL_I, cA_I, cJ_I, cR_I, cN_I, cI_L, cL_L, cA_L, cJ_L, cR_L, cN_L, cI_A, cL_A, cA_A, cJ_A, cR_A, cN_A, cI_J, cL_J, cA_J, cJ_J, cR_J, cN_J, cI_R, cL_R, cA_R, cJ_R, cR_R, cN_R, cI_N, cL_N, cA_N, cJ_N, cR_N, cN_N, ↓reduceIte, Nat.reduceEqDiff, upd_at, updL_at] at hd
        exact absurd (by decide) hd
    | succ s ihd =>
      intro y h2s hx
      rw [dj_s]
      refine aw_iload_n (i := 3) C (dec D_Box_numberOf rfl) rfl rfl ?_
      refine aw_if_lt (tgt := 49) C (dec D_Box_numberOf rfl) (by decide) (fun hd => ?_) (fun hd => ?_)
      · try simp only [mI_I, mL_I, mA_I, mJ_I, mI_L, mL_L, mA_L, mJ_L, mI_A, mL_A, mA_A, mJ_A, mI_J, mL_J, mA_J, mJ_J, cI_I, cL_I, cA_I, cJ_I, cR_I, cN_I, cI_L, cL_L, cA_L, cJ_L, cR_L, cN_L, cI_A, cL_A, cA_A, cJ_A, cR_A, cN_A, cI_J, cL_J, cA_J, cJ_J, cR_J, cN_J, cI_R, cL_R, cA_R, cJ_R, cR_R, cN_R, cI_N, cL_N, cA_N, cJ_N, cR_N, cN_N, ↓reduceIte, Nat.reduceEqDiff, upd_at, updL_at] at hd
        exact absurd hd (nI_pos (by omega))
      · try simp only [mI_I, mL_I, mA_I, mJ_I, mI_L, mL_L, mA_L, mJ_L, mI_A, mL_A, mA_A, mJ_A, mI_J, mL_J, mA_J, mJ_J, cI_I, cL_I, cA_I, cJ_I, cR_I, cN_I, cI_L, cL_L, cA_L, cJ_L, cR_L, cN_L, cI_A, cL_A, cA_A, cJ_A, cR_A, cN_A, cI_J, cL_J, cA_J, cJ_J, cR_J, cN_J, cI_R, cL_R, cA_R, cJ_R, cR_R, cN_R, cI_N, cL_N, cA_N, cJ_N, cR_N, cN_N, ↓reduceIte, Nat.reduceEqDiff, upd_at, updL_at] at hd
        have hf := hF9 s (by omega)
        refine aw_aload_n (i := 0) C (dec D_Box_numberOf rfl) rfl rfl ?_
        refine gf_Box_34 C (dec D_Box_numberOf rfl) ?_
        refine gf_Box_74 C (dec D_Box_numberOf rfl) ?_
        refine aw_iload_n (i := 3) C (dec D_Box_numberOf rfl) rfl rfl ?_
        refine al_C6 C s (dec D_Box_numberOf rfl) (ix_of (by omega)) ?_
        rw [hf.1]
        cases hz : fo s with
        | none =>
          refine aw_ifnullN (tgt := 41) C (dec D_Box_numberOf rfl) (by decide) ?_
          refine aw_iload_n (i := 2) C (dec D_Box_numberOf rfl) rfl rfl ?_
          refine aw_istore_n (i := 2) C (dec D_Box_numberOf rfl) rfl (by decide) ?_
          refine aw_iinc C (dec D_Box_numberOf rfl) rfl rfl (by decide) ?_
          refine aw_goto (tgt := 5) C (dec D_Box_numberOf rfl) (by decide) ?_
          exact ihd _ (by omega) (by rw [← hx, cNumD, cNm, hz])
        | some j =>
          have hj := hf.2 j hz
          refine aw_ifnull C (dec D_Box_numberOf rfl) ?_
          refine aw_aload_n (i := 0) C (dec D_Box_numberOf rfl) rfl rfl ?_
          refine gf_Box_34 C (dec D_Box_numberOf rfl) ?_
          refine gf_Box_74 C (dec D_Box_numberOf rfl) ?_
          refine aw_iload_n (i := 3) C (dec D_Box_numberOf rfl) rfl rfl ?_
          refine al_C6 C s (dec D_Box_numberOf rfl) (ix_of (by omega)) ?_
          rw [hf.1, hz]
          refine gf_Box_139 C hj (dec D_Box_numberOf rfl) ?_
          refine aw_iload_n (i := 1) C (dec D_Box_numberOf rfl) rfl rfl ?_
          refine aw_icmp_ne (tgt := 41) C (dec D_Box_numberOf rfl) (by decide) (fun h34 => ?_) (fun h34 => ?_)
          · refine aw_iload_n (i := 2) C (dec D_Box_numberOf rfl) rfl rfl ?_
            refine aw_istore_n (i := 2) C (dec D_Box_numberOf rfl) rfl (by decide) ?_
            refine aw_iinc C (dec D_Box_numberOf rfl) rfl rfl (by decide) ?_
            refine aw_goto (tgt := 5) C (dec D_Box_numberOf rfl) (by decide) ?_
            exact ihd _ (by omega) (by rw [← hx, cNumD, cNm, hz]; simp only [if_neg h34])
          · refine aw_iload_n (i := 3) C (dec D_Box_numberOf rfl) rfl rfl ?_
            refine aw_goto (tgt := 42) C (dec D_Box_numberOf rfl) (by decide) ?_
            refine aw_istore_n (i := 2) C (dec D_Box_numberOf rfl) rfl (by decide) ?_
            refine aw_iinc C (dec D_Box_numberOf rfl) rfl rfl (by decide) ?_
            refine aw_goto (tgt := 5) C (dec D_Box_numberOf rfl) (by decide) ?_
            refine AW.ls [(0, .ref (a 0 0)), (1, .int x), (2, .int (nI s)), (3, .int (dj s))] rfl ?_
            exact ihd _ (by omega) (by rw [← hx, cNumD, cNm, hz]; simp only [if_pos h34])
  refine aw_iconst (v := (-1)) C (dec D_Box_numberOf rfl) (by decide) ?_
  refine aw_istore_n (i := 2) C (dec D_Box_numberOf rfl) rfl (by decide) ?_
  refine aw_bipush (v := 7) C (dec D_Box_numberOf rfl) (by decide) ?_
  refine aw_istore_n (i := 3) C (dec D_Box_numberOf rfl) rfl (by decide) ?_
  exact lpd 8 (-1) (by omega) rfl
