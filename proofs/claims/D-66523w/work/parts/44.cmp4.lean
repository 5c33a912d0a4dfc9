/-! the component: the test of the chip; printed by tools/m44.py -/
def cT2 (c : CC) (j : Nat) : Nat → CC
  | 0 => c
  | p + 1 => cT1 (cT2 c j p) j p
def gd (c : CC) (lp : Nat → Nat) (k : Nat) : Bool := decide (cN c 16 (lp k) = 0)
def gN (c : CC) (lp : Nat → Nat) : Nat → Nat
  | 0 => 0
  | k + 1 => gN c lp k + if gd c lp k = true then 1 else 0
def gMn (c : CC) (lp : Nat → Nat) (k : Nat) : Nat := if gN c lp k < 64 then gN c lp k else 64
def cTL (c : CC) (j : Nat) : CC := cT2 c j 101
def cT3 (c : CC) (lp : Nat → Nat) : Nat → CC
  | 0 => c
  | k + 1 => if gd c lp k = true ∧ gN c lp k < 64 then sA (cTL (cT3 c lp k) (lp k)) 5 0 (upd (cA (cTL (cT3 c lp k) (lp k)) 5 0) (gN c lp k) (nI k)) else cTL (cT3 c lp k) (lp k)
def cTest (c : CC) (lp : Nat → Nat) : CC := sI (sL (cT3 c lp 69) 0 0 (cL (cT3 c lp 69) 0 0 + 202)) 1 0 1
def Sm (c' c : CC) : Prop := cI c' = cI c ∧ cL c' = cL c ∧ cA c' = cA c ∧ cR c' = cR c ∧ cN c' = cN c
theorem cT1_o (c : CC) (j p : Nat) : Sm (cT1 c j p) c := ⟨rfl, rfl, rfl, rfl, rfl⟩
theorem Sm.tr {a b c : CC} (h : Sm a b) (g : Sm b c) : Sm a c := ⟨h.1.trans g.1, h.2.1.trans g.2.1, h.2.2.1.trans g.2.2.1, h.2.2.2.1.trans g.2.2.2.1, h.2.2.2.2.trans g.2.2.2.2⟩
theorem cT2_o (c : CC) (j : Nat) (p : Nat) : Sm (cT2 c j p) c := by
  induction p with
  | zero => exact ⟨rfl, rfl, rfl, rfl, rfl⟩
  | succ p ih => exact (cT1_o _ j p).tr ih
theorem cTL_o (c : CC) (j : Nat) : Sm (cTL c j) c := by
  unfold cTL
  exact cT2_o c j 101
theorem cT3_o (c : CC) (lp : Nat → Nat) (k : Nat) : cI (cT3 c lp k) = cI c ∧ cL (cT3 c lp k) = cL c ∧ cR (cT3 c lp k) = cR c ∧ cN (cT3 c lp k) = cN c := by
  induction k with
  | zero => exact ⟨rfl, rfl, rfl, rfl⟩
  | succ k ih =>
    have h2 := cTL_o (cT3 c lp k) (lp k)
    have key : ∀ x y : CC, Sm x y → cI y = cI c ∧ cL y = cL c ∧ cR y = cR c ∧ cN y = cN c → ∀ v, (cI (sA x 5 0 v) = cI c ∧ cL (sA x 5 0 v) = cL c ∧ cR (sA x 5 0 v) = cR c ∧ cN (sA x 5 0 v) = cN c) ∧ (cI x = cI c ∧ cL x = cL c ∧ cR x = cR c ∧ cN x = cN c) := by
      intro x y hx hy v
      have z : cI x = cI c ∧ cL x = cL c ∧ cR x = cR c ∧ cN x = cN c := ⟨hx.1.trans hy.1, hx.2.1.trans hy.2.1, hx.2.2.2.1.trans hy.2.2.1, hx.2.2.2.2.trans hy.2.2.2⟩
      exact ⟨z, z⟩
    have k2 := key _ _ h2 ih
    by_cases hp : gd c lp k = true ∧ gN c lp k < 64
    · rw [cT3, if_pos hp]; exact (k2 _).1
    · rw [cT3, if_neg hp]; exact (k2 (fun _ => 0)).2
theorem gN_le (c : CC) (lp : Nat → Nat) : ∀ k, gN c lp k ≤ k
  | 0 => Nat.le_refl 0
  | k + 1 => by have := gN_le c lp k; rw [gN]; split <;> omega
theorem gMn_s (c : CC) (lp : Nat → Nat) (k : Nat) : gMn c lp (k + 1) = if gd c lp k = true ∧ gN c lp k < 64 then gMn c lp k + 1 else gMn c lp k := by
  have e : gN c lp (k + 1) = gN c lp k + if gd c lp k = true then 1 else 0 := rfl
  unfold gMn
  rw [e]
  cases h1 : gd c lp k
  · simp
  · by_cases h2 : gN c lp k < 64
    · simp [h2]; omega
    · simp [h2]; omega
theorem c_Chip_test0 (l : Launch) (G : GG) (a : AD) (c : CC) (m : MM) (o : OO) (lp : Nat → Nat) (hl : LWf c lp) (hg : gN c lp 69 < 64) : CT l G y_Chip_test (.code y_Chip_test b_Chip_test 6 (some .boolean)) 2 0 0 (Fyes G) (wld G a c m o) [.ref (a 1 0)] (fun r w2 => r = .inl (some (.int 0)) ∧ w2 = wld G a c m o) := by
  refine CT.of (by decide) (Nat.le_of_ble_eq_true rfl) rfl ?_
  intro E hl hG hF C r hw hex hnm
  subst hl; subst hG
  have Fw : Cw E := fun a h => by rw [hF]; exact h
  have hg69 := gN_le c lp 69
  have lpg : ∀ (n t : Nat) , 69 - t < n → t ≤ 69 → AW E true 0 0 (wld (eG E) a c m o) 4 [(0, .ref (a 1 0)), (1, .int (nI (gN c lp t))), (2, .int (nI t))] [] := by
    intro n
    induction n with
    | zero => intro t  h1 h2; omega
    | succ n ih =>
      intro t  h1t h2t
      refine aw_iload_n (i := 2) C (dec D_Chip_test rfl) rfl rfl ?_
      refine aw_bipush (v := 69) C (dec D_Chip_test rfl) (by decide) ?_
      refine aw_icmp_ge (tgt := 36) C (dec D_Chip_test rfl) (by decide) (fun hb => ?_) (fun hb => ?_)
      · try simp only [mI_I, mL_I, mA_I, mJ_I, mI_L, mL_L, mA_L, mJ_L, mI_A, mL_A, mA_A, mJ_A, mI_J, mL_J, mA_J, mJ_J, cI_I, cL_I, cA_I, cJ_I, cR_I, cN_I, cI_L, cL_L, cA_L, cJ_L, cR_L, cN_L, cI_A, cL_A, cA_A, cJ_A, cR_A, cN_A, cI_J, cL_J, cA_J, cJ_J, cR_J, cN_J, cI_R, cL_R, cA_R, cJ_R, cR_R, cN_R, cI_N, cL_N, cA_N, cJ_N, cR_N, cN_N, ↓reduceIte, Nat.reduceEqDiff, upd_at, updL_at] at hb
        have e9 : t = 69 := by have := ix_ge (N := 69) hb; omega
        subst e9
        refine aw_iload_n (i := 1) C (dec D_Chip_test rfl) rfl rfl ?_
        refine aw_bipush (v := 64) C (dec D_Chip_test rfl) (by decide) ?_
        refine aw_icmp_ge (tgt := 44) C (dec D_Chip_test rfl) (by decide) (fun h39 => ?_) (fun h39 => ?_)
        · try simp only [mI_I, mL_I, mA_I, mJ_I, mI_L, mL_L, mA_L, mJ_L, mI_A, mL_A, mA_A, mJ_A, mI_J, mL_J, mA_J, mJ_J, cI_I, cL_I, cA_I, cJ_I, cR_I, cN_I, cI_L, cL_L, cA_L, cJ_L, cR_L, cN_L, cI_A, cL_A, cA_A, cJ_A, cR_A, cN_A, cI_J, cL_J, cA_J, cJ_J, cR_J, cN_J, cI_R, cL_R, cA_R, cJ_R, cR_R, cN_R, cI_N, cL_N, cA_N, cJ_N, cR_N, cN_N, ↓reduceIte, Nat.reduceEqDiff, upd_at, updL_at] at h39
          exact absurd (ix_ge (N := 64) h39) (by omega)
        · try simp only [mI_I, mL_I, mA_I, mJ_I, mI_L, mL_L, mA_L, mJ_L, mI_A, mL_A, mA_A, mJ_A, mI_J, mL_J, mA_J, mJ_J, cI_I, cL_I, cA_I, cJ_I, cR_I, cN_I, cI_L, cL_L, cA_L, cJ_L, cR_L, cN_L, cI_A, cL_A, cA_A, cJ_A, cR_A, cN_A, cI_J, cL_J, cA_J, cJ_J, cR_J, cN_J, cI_R, cL_R, cA_R, cJ_R, cR_R, cN_R, cI_N, cL_N, cA_N, cJ_N, cR_N, cN_N, ↓reduceIte, Nat.reduceEqDiff, upd_at, updL_at] at h39
          refine aw_iconst (v := 0) C (dec D_Chip_test rfl) (by decide) ?_
          refine aw_ret_i C r (dec D_Chip_test rfl) rfl (by decide) (by decide) ?_
          exact ⟨rfl, rfl⟩
      · try simp only [mI_I, mL_I, mA_I, mJ_I, mI_L, mL_L, mA_L, mJ_L, mI_A, mL_A, mA_A, mJ_A, mI_J, mL_J, mA_J, mJ_J, cI_I, cL_I, cA_I, cJ_I, cR_I, cN_I, cI_L, cL_L, cA_L, cJ_L, cR_L, cN_L, cI_A, cL_A, cA_A, cJ_A, cR_A, cN_A, cI_J, cL_J, cA_J, cJ_J, cR_J, cN_J, cI_R, cL_R, cA_R, cJ_R, cR_R, cN_R, cI_N, cL_N, cA_N, cJ_N, cR_N, cN_N, ↓reduceIte, Nat.reduceEqDiff, upd_at, updL_at] at hb
        have htt : t < 69 := ix_lt (N := 69) hb
        have hL := hl t htt
        refine aw_iload_n (i := 1) C (dec D_Chip_test rfl) rfl rfl ?_
        refine aw_aload_n (i := 0) C (dec D_Chip_test rfl) rfl rfl ?_
        refine gf_Chip_11 C (dec D_Chip_test rfl) ?_
        refine aw_iload_n (i := 2) C (dec D_Chip_test rfl) rfl rfl ?_
        refine al_C4 C t (dec D_Chip_test rfl) (ix_of htt) ?_
        rw [hL.1]
        by_cases hz : cN c 16 (lp t) = 0
        · refine aw_instN C (Cn := "BubbleBox$Loop") (nm := "BubbleBox$StuckLoop") (by decide) (rcL hL.2.1 hz) (List.mem_of_getElem? (i := 480) (by decide +kernel)) (dec D_Chip_test rfl) ?_
          refine aw_if_eq (tgt := 27) C (dec D_Chip_test rfl) (by decide) (fun _ => ?_) (fun h_ => absurd (show (0 : Int32) = (0 : Int32) by decide) h_)
          refine aw_iconst (v := 1) C (dec D_Chip_test rfl) (by decide) ?_
          refine aw_iadd C (dec D_Chip_test rfl) ?_
          rw [show nI (gN c lp t) + (1 : Int32) = nI (gN c lp (t + 1)) from by rw [gN, gd, decide_eq_true hz]; exact nI_add _ 1]
          refine aw_istore_n (i := 1) C (dec D_Chip_test rfl) rfl (by decide) ?_
          refine aw_iinc C (dec D_Chip_test rfl) rfl (nI_inc t) (by decide) ?_
          refine aw_goto (tgt := 4) C (dec D_Chip_test rfl) (by decide) ?_
          refine AW.ls [(0, .ref (a 1 0)), (1, .int (nI (gN c lp (t + 1)))), (2, .int (nI (t + 1)))] rfl ?_
          exact ih (t + 1) (by omega) (by omega)
        · refine aw_instY C (ci := 6) rfl rfl (rcS hL.2.1 hz) (List.mem_of_getElem? (i := 480) (by decide +kernel)) (dec D_Chip_test rfl) ?_
          refine aw_if_eq (tgt := 27) C (dec D_Chip_test rfl) (by decide) (fun h_ => absurd h_ (show ¬ (1 : Int32) = (0 : Int32) by decide)) (fun _ => ?_)
          refine aw_iconst (v := 0) C (dec D_Chip_test rfl) (by decide) ?_
          refine aw_goto (tgt := 28) C (dec D_Chip_test rfl) (by decide) ?_
          refine aw_iadd C (dec D_Chip_test rfl) ?_
          rw [show nI (gN c lp t) + (0 : Int32) = nI (gN c lp (t + 1)) from by rw [gN, gd, decide_eq_false hz]; exact nI_add _ 0]
          refine aw_istore_n (i := 1) C (dec D_Chip_test rfl) rfl (by decide) ?_
          refine aw_iinc C (dec D_Chip_test rfl) rfl (nI_inc t) (by decide) ?_
          refine aw_goto (tgt := 4) C (dec D_Chip_test rfl) (by decide) ?_
          refine AW.ls [(0, .ref (a 1 0)), (1, .int (nI (gN c lp (t + 1)))), (2, .int (nI (t + 1)))] rfl ?_
          exact ih (t + 1) (by omega) (by omega)
  refine aw_iconst (v := 0) C (dec D_Chip_test rfl) (by decide) ?_
  refine aw_istore_n (i := 1) C (dec D_Chip_test rfl) rfl (by decide) ?_
  refine aw_iconst (v := 0) C (dec D_Chip_test rfl) (by decide) ?_
  refine aw_istore_n (i := 2) C (dec D_Chip_test rfl) rfl (by decide) ?_
  exact lpg 70 0 (by omega) (by omega)
theorem c_Chip_test1 (l : Launch) (G : GG) (a : AD) (c : CC) (m : MM) (o : OO) (lp : Nat → Nat) (hl : LWf c lp) (hg : 64 ≤ gN c lp 69) : CT l G y_Chip_test (.code y_Chip_test b_Chip_test 6 (some .boolean)) 2 0 0 (Fyes G) (wld G a c m o) [.ref (a 1 0)] (fun r w2 => r = .inl (some (.int 1)) ∧ w2 = wld G a (cTest c lp) m o) := by
  refine CT.of (by decide) (Nat.le_of_ble_eq_true rfl) rfl ?_
  intro E hl hG hF C r hw hex hnm
  subst hl; subst hG
  have Fw : Cw E := fun a h => by rw [hF]; exact h
  have hg69 := gN_le c lp 69
  have k44 : ∀ g0 : Int32, AW E false 0 0 (wld (eG E) a c m o) 44 [(0, .ref (a 1 0)), (1, .int g0)] [] := by
    intro g0
    have lpo : ∀ (n t : Nat) , 69 - t < n → t ≤ 69 → AW E false 0 0 (wld (eG E) a (cT3 c lp t) m o) 48 [(0, .ref (a 1 0)), (1, .int g0), (2, .int (nI (gMn c lp t))), (3, .int (nI t))] [] := by
      intro n
      induction n with
      | zero => intro t  h1 h2; omega
      | succ n ih =>
        intro t  h1t h2t
        refine aw_iload_n (i := 3) C (dec D_Chip_test rfl) rfl rfl ?_
        refine aw_bipush (v := 69) C (dec D_Chip_test rfl) (by decide) ?_
        refine aw_icmp_ge (tgt := 116) C (dec D_Chip_test rfl) (by decide) (fun hb => ?_) (fun hb => ?_)
        · try simp only [mI_I, mL_I, mA_I, mJ_I, mI_L, mL_L, mA_L, mJ_L, mI_A, mL_A, mA_A, mJ_A, mI_J, mL_J, mA_J, mJ_J, cI_I, cL_I, cA_I, cJ_I, cR_I, cN_I, cI_L, cL_L, cA_L, cJ_L, cR_L, cN_L, cI_A, cL_A, cA_A, cJ_A, cR_A, cN_A, cI_J, cL_J, cA_J, cJ_J, cR_J, cN_J, cI_R, cL_R, cA_R, cJ_R, cR_R, cN_R, cI_N, cL_N, cA_N, cJ_N, cR_N, cN_N, ↓reduceIte, Nat.reduceEqDiff, upd_at, updL_at] at hb
          have e9 : t = 69 := by have := ix_ge (N := 69) hb; omega
          subst e9
          refine AW.ls [(0, .ref (a 1 0))] rfl ?_
          refine aw_aload_n (i := 0) C (dec D_Chip_test rfl) rfl rfl ?_
          refine aw_dup C (dec D_Chip_test rfl) rfl ?_
          refine gf_Chip_26 C (dec D_Chip_test rfl) ?_
          refine aw_ldc2 (v := 202) C (dec D_Chip_test rfl) (List.mem_of_getElem? (i := 495) (by decide +kernel)) ?_
          refine aw_ladd C (dec D_Chip_test rfl) ?_
          refine pf_Chip_26 C Fw (dec D_Chip_test rfl) ?_
          refine aw_aload_n (i := 0) C (dec D_Chip_test rfl) rfl rfl ?_
          refine aw_iconst (v := 1) C (dec D_Chip_test rfl) (by decide) ?_
          refine pf_Chip_50 C Fw bz1 (dec D_Chip_test rfl) ?_
          refine aw_iconst (v := 1) C (dec D_Chip_test rfl) (by decide) ?_
          refine aw_ret_i C r (dec D_Chip_test rfl) rfl (by decide) (by decide) ?_
          exact ⟨rfl, rfl⟩
        · try simp only [mI_I, mL_I, mA_I, mJ_I, mI_L, mL_L, mA_L, mJ_L, mI_A, mL_A, mA_A, mJ_A, mI_J, mL_J, mA_J, mJ_J, cI_I, cL_I, cA_I, cJ_I, cR_I, cN_I, cI_L, cL_L, cA_L, cJ_L, cR_L, cN_L, cI_A, cL_A, cA_A, cJ_A, cR_A, cN_A, cI_J, cL_J, cA_J, cJ_J, cR_J, cN_J, cI_R, cL_R, cA_R, cJ_R, cR_R, cN_R, cI_N, cL_N, cA_N, cJ_N, cR_N, cN_N, ↓reduceIte, Nat.reduceEqDiff, upd_at, updL_at] at hb
          have htt : t < 69 := ix_lt (N := 69) hb
          have hL := hl t htt
          have ho := cT3_o c lp t
          have hgt := gN_le c lp t
          have hgM : gMn c lp t ≤ 64 := by unfold gMn; split <;> omega
          have es := gMn_s c lp t
          refine aw_iconst (v := 1) C (dec D_Chip_test rfl) (by decide) ?_
          refine aw_istore C (dec D_Chip_test rfl) (by decide) ?_
          refine aw_iconst (v := 0) C (dec D_Chip_test rfl) (by decide) ?_
          refine aw_istore C (dec D_Chip_test rfl) (by decide) ?_
          have lpp : ∀ (np p : Nat) , 101 - p < np → p ≤ 101 → AW E false 0 0 (wld (eG E) a (cT2 (cT3 c lp t) (lp t) p) m o) 60 [(0, .ref (a 1 0)), (1, .int g0), (2, .int (nI (gMn c lp t))), (3, .int (nI t)), (4, .int (bI (decide (p = 0) || gd c lp t))), (5, .int (nI p))] [] := by
            intro np
            induction np with
            | zero => intro p  h1 h2; omega
            | succ np ihp =>
              intro p  h1p h2p
              refine aw_iload C (dec D_Chip_test rfl) rfl ?_
              refine aw_bipush (v := 101) C (dec D_Chip_test rfl) (by decide) ?_
              refine aw_icmp_ge (tgt := 89) C (dec D_Chip_test rfl) (by decide) (fun hbp => ?_) (fun hbp => ?_)
              · try simp only [mI_I, mL_I, mA_I, mJ_I, mI_L, mL_L, mA_L, mJ_L, mI_A, mL_A, mA_A, mJ_A, mI_J, mL_J, mA_J, mJ_J, cI_I, cL_I, cA_I, cJ_I, cR_I, cN_I, cI_L, cL_L, cA_L, cJ_L, cR_L, cN_L, cI_A, cL_A, cA_A, cJ_A, cR_A, cN_A, cI_J, cL_J, cA_J, cJ_J, cR_J, cN_J, cI_R, cL_R, cA_R, cJ_R, cR_R, cN_R, cI_N, cL_N, cA_N, cJ_N, cR_N, cN_N, ↓reduceIte, Nat.reduceEqDiff, upd_at, updL_at] at hbp
                have e9 : p = 101 := by have := ix_ge (N := 101) hbp; omega
                subst e9
                rw [show (decide (101 = 0) || gd c lp t) = gd c lp t from rfl]
                refine AW.ls [(0, .ref (a 1 0)), (1, .int g0), (2, .int (nI (gMn c lp t))), (3, .int (nI t)), (4, .int (bI (gd c lp t)))] rfl ?_
                have kz := ih (t + 1) (by omega) (by omega)
                rw [es, cT3] at kz
                change AW E false 0 0 (wld (eG E) a (cTL (cT3 c lp t) (lp t)) m o) _ _ _
                generalize cTL (cT3 c lp t) (lp t) = cx at kz ⊢
                refine aw_iload C (dec D_Chip_test rfl) rfl ?_
                refine aw_if_eq (tgt := 110) C (dec D_Chip_test rfl) (by decide) (fun h91 => ?_) (fun h91 => ?_)
                · rw [if_neg (fun z => by rw [bI_0.mp h91] at z; exact absurd z.1 (by decide)), if_neg (fun z => by rw [bI_0.mp h91] at z; exact absurd z.1 (by decide))] at kz
                  refine AW.ls [(0, .ref (a 1 0)), (1, .int g0), (2, .int (nI (gMn c lp t))), (3, .int (nI t))] rfl ?_
                  refine aw_iinc C (dec D_Chip_test rfl) rfl (nI_inc t) (by decide) ?_
                  refine aw_goto (tgt := 48) C (dec D_Chip_test rfl) (by decide) ?_
                  exact kz
                · have hgd : gd c lp t = true := by have z := mt bI_0.mpr h91; simpa using z
                  refine aw_iload_n (i := 2) C (dec D_Chip_test rfl) rfl rfl ?_
                  refine aw_bipush (v := 64) C (dec D_Chip_test rfl) (by decide) ?_
                  refine aw_icmp_ge (tgt := 110) C (dec D_Chip_test rfl) (by decide) (fun h97 => ?_) (fun h97 => ?_)
                  · have h64 : ¬ gN c lp t < 64 := fun z => by have e : gMn c lp t = gN c lp t := if_pos z; rw [e] at h97; have := ix_ge (N := 64) h97; omega
                    rw [if_neg (fun z => h64 z.2), if_neg (fun z => h64 z.2)] at kz
                    refine AW.ls [(0, .ref (a 1 0)), (1, .int g0), (2, .int (nI (gMn c lp t))), (3, .int (nI t))] rfl ?_
                    refine aw_iinc C (dec D_Chip_test rfl) rfl (nI_inc t) (by decide) ?_
                    refine aw_goto (tgt := 48) C (dec D_Chip_test rfl) (by decide) ?_
                    exact kz
                  · have h64 : gN c lp t < 64 := Nat.lt_of_not_le fun z => by have e : gMn c lp t = 64 := if_neg (by omega); rw [e] at h97; exact h97 (by decide)
                    have eg : gMn c lp t = gN c lp t := if_pos h64
                    rw [if_pos ⟨hgd, h64⟩, if_pos ⟨hgd, h64⟩, eg] at kz
                    rw [eg]
                    refine aw_aload_n (i := 0) C (dec D_Chip_test rfl) rfl rfl ?_
                    refine gf_Chip_17 C (dec D_Chip_test rfl) ?_
                    refine aw_iload_n (i := 2) C (dec D_Chip_test rfl) rfl rfl ?_
                    refine aw_iinc C (dec D_Chip_test rfl) rfl (nI_inc (gN c lp t)) (by decide) ?_
                    refine aw_iload_n (i := 3) C (dec D_Chip_test rfl) rfl rfl ?_
                    refine as_C5 C Fw (gN c lp t) (dec D_Chip_test rfl) (ix_of h64) ?_
                    refine AW.ls [(0, .ref (a 1 0)), (1, .int g0), (2, .int (nI (gN c lp t + 1))), (3, .int (nI t))] rfl ?_
                    refine aw_iinc C (dec D_Chip_test rfl) rfl (nI_inc t) (by decide) ?_
                    refine aw_goto (tgt := 48) C (dec D_Chip_test rfl) (by decide) ?_
                    exact kz
              · try simp only [mI_I, mL_I, mA_I, mJ_I, mI_L, mL_L, mA_L, mJ_L, mI_A, mL_A, mA_A, mJ_A, mI_J, mL_J, mA_J, mJ_J, cI_I, cL_I, cA_I, cJ_I, cR_I, cN_I, cI_L, cL_L, cA_L, cJ_L, cR_L, cN_L, cI_A, cL_A, cA_A, cJ_A, cR_A, cN_A, cI_J, cL_J, cA_J, cJ_J, cR_J, cN_J, cI_R, cL_R, cA_R, cJ_R, cR_R, cN_R, cI_N, cL_N, cA_N, cJ_N, cR_N, cN_N, ↓reduceIte, Nat.reduceEqDiff, upd_at, updL_at] at hbp
                have htp : p < 101 := ix_lt (N := 101) hbp
                have ho2 := cT2_o (cT3 c lp t) (lp t) p
                have hN : lp t < cN (cT2 (cT3 c lp t) (lp t) p) 15 0 := by rw [ho2.2.2.2.2, ho.2.2.2]; exact hL.2.1
                refine aw_iload C (dec D_Chip_test rfl) rfl ?_
                refine aw_aload_n (i := 0) C (dec D_Chip_test rfl) rfl rfl ?_
                refine gf_Chip_11 C (dec D_Chip_test rfl) ?_
                refine aw_iload_n (i := 3) C (dec D_Chip_test rfl) rfl rfl ?_
                refine al_C4 C t (dec D_Chip_test rfl) (ix_of htt) ?_
                rw [show cR (cT2 (cT3 c lp t) (lp t) p) 4 0 t = some (lp t) from by rw [ho2.2.2.2.1, ho.2.2.1]; exact hL.1]
                refine aw_iload C (dec D_Chip_test rfl) rfl ?_
                by_cases hz : cN c 16 (lp t) = 0
                · have hZ : cN (cT2 (cT3 c lp t) (lp t) p) 16 (lp t) = 0 := by rw [ho2.2.2.2.2, ho.2.2.2]; exact hz
                  have hgd : gd c lp t = true := decide_eq_true hz
                  refine aw_cv C ci_Chip_44 [_] (c_Loop_tests1 _ _ _ _ _ _ (lp t) p hN hZ htp) (dec D_Chip_test rfl) (rcL hN hZ) rfl (fpW Fw) (Nat.le_of_ble_eq_true rfl) (by decide) ⟨by decide, by decide⟩ (fun v w2 hp => ?_) (fun _ _ h => by cases h.1)
                  obtain ⟨hv, rfl⟩ := hp
                  cases hv
                  refine aw_iand C (dec D_Chip_test rfl) ?_
                  rw [show bI (decide (p = 0) || gd c lp t) &&& (1 : Int32) = bI (decide (p + 1 = 0) || gd c lp t) from by rw [hgd]; cases decide (p = 0) <;> rfl]
                  refine aw_istore C (dec D_Chip_test rfl) (by decide) ?_
                  refine aw_iinc C (dec D_Chip_test rfl) rfl (nI_inc p) (by decide) ?_
                  refine aw_goto (tgt := 60) C (dec D_Chip_test rfl) (by decide) ?_
                  refine AW.ls [(0, .ref (a 1 0)), (1, .int g0), (2, .int (nI (gMn c lp t))), (3, .int (nI t)), (4, .int (bI (decide ((p + 1) = 0) || gd c lp t))), (5, .int (nI (p + 1)))] rfl ?_
                  exact ihp (p + 1) (by omega) (by omega)
                · have hZ : ¬ cN (cT2 (cT3 c lp t) (lp t) p) 16 (lp t) = 0 := by rw [ho2.2.2.2.2, ho.2.2.2]; exact hz
                  have hgd : gd c lp t = false := decide_eq_false hz
                  refine aw_cu C ci_Chip_44_S [_] (c_Loop_tests0 _ _ _ _ _ _ (lp t) p hN hZ (by rw [ho2.1, ho.1]; exact hL.2.2.1 hz) htp) (dec D_Chip_test rfl) (rcS hN hZ) rfl (fpW Fw) (Nat.le_of_ble_eq_true rfl) (by decide) ⟨by decide, by decide⟩ (fun v w2 hp => ?_) (fun _ _ h => by cases h.1)
                  obtain ⟨hv, rfl⟩ := hp
                  cases hv
                  refine aw_iand C (dec D_Chip_test rfl) ?_
                  rw [show bI (decide (p = 0) || gd c lp t) &&& (0 : Int32) = bI (decide (p + 1 = 0) || gd c lp t) from by rw [hgd]; cases decide (p = 0) <;> rfl]
                  refine aw_istore C (dec D_Chip_test rfl) (by decide) ?_
                  refine aw_iinc C (dec D_Chip_test rfl) rfl (nI_inc p) (by decide) ?_
                  refine aw_goto (tgt := 60) C (dec D_Chip_test rfl) (by decide) ?_
                  refine AW.ls [(0, .ref (a 1 0)), (1, .int g0), (2, .int (nI (gMn c lp t))), (3, .int (nI t)), (4, .int (bI (decide ((p + 1) = 0) || gd c lp t))), (5, .int (nI (p + 1)))] rfl ?_
                  exact ihp (p + 1) (by omega) (by omega)
          exact lpp 102 0 (by omega) (by omega)
    refine aw_iconst (v := 0) C (dec D_Chip_test rfl) (by decide) ?_
    refine aw_istore_n (i := 2) C (dec D_Chip_test rfl) rfl (by decide) ?_
    refine aw_iconst (v := 0) C (dec D_Chip_test rfl) (by decide) ?_
    refine aw_istore_n (i := 3) C (dec D_Chip_test rfl) rfl (by decide) ?_
    exact lpo 70 0 (by omega) (by omega)
  have lpg : ∀ (n t : Nat) , 69 - t < n → t ≤ 69 → AW E true 0 0 (wld (eG E) a c m o) 4 [(0, .ref (a 1 0)), (1, .int (nI (gN c lp t))), (2, .int (nI t))] [] := by
    intro n
    induction n with
    | zero => intro t  h1 h2; omega
    | succ n ih =>
      intro t  h1t h2t
      refine aw_iload_n (i := 2) C (dec D_Chip_test rfl) rfl rfl ?_
      refine aw_bipush (v := 69) C (dec D_Chip_test rfl) (by decide) ?_
      refine aw_icmp_ge (tgt := 36) C (dec D_Chip_test rfl) (by decide) (fun hb => ?_) (fun hb => ?_)
      · try simp only [mI_I, mL_I, mA_I, mJ_I, mI_L, mL_L, mA_L, mJ_L, mI_A, mL_A, mA_A, mJ_A, mI_J, mL_J, mA_J, mJ_J, cI_I, cL_I, cA_I, cJ_I, cR_I, cN_I, cI_L, cL_L, cA_L, cJ_L, cR_L, cN_L, cI_A, cL_A, cA_A, cJ_A, cR_A, cN_A, cI_J, cL_J, cA_J, cJ_J, cR_J, cN_J, cI_R, cL_R, cA_R, cJ_R, cR_R, cN_R, cI_N, cL_N, cA_N, cJ_N, cR_N, cN_N, ↓reduceIte, Nat.reduceEqDiff, upd_at, updL_at] at hb
        have e9 : t = 69 := by have := ix_ge (N := 69) hb; omega
        subst e9
        refine aw_iload_n (i := 1) C (dec D_Chip_test rfl) rfl rfl ?_
        refine aw_bipush (v := 64) C (dec D_Chip_test rfl) (by decide) ?_
        refine aw_icmp_ge (tgt := 44) C (dec D_Chip_test rfl) (by decide) (fun h39 => ?_) (fun h39 => ?_)
        · try simp only [mI_I, mL_I, mA_I, mJ_I, mI_L, mL_L, mA_L, mJ_L, mI_A, mL_A, mA_A, mJ_A, mI_J, mL_J, mA_J, mJ_J, cI_I, cL_I, cA_I, cJ_I, cR_I, cN_I, cI_L, cL_L, cA_L, cJ_L, cR_L, cN_L, cI_A, cL_A, cA_A, cJ_A, cR_A, cN_A, cI_J, cL_J, cA_J, cJ_J, cR_J, cN_J, cI_R, cL_R, cA_R, cJ_R, cR_R, cN_R, cI_N, cL_N, cA_N, cJ_N, cR_N, cN_N, ↓reduceIte, Nat.reduceEqDiff, upd_at, updL_at] at h39
          refine AW.ls [(0, .ref (a 1 0)), (1, .int (nI (gN c lp 69)))] rfl ?_
          exact AW.impure (k44 _)
        · try simp only [mI_I, mL_I, mA_I, mJ_I, mI_L, mL_L, mA_L, mJ_L, mI_A, mL_A, mA_A, mJ_A, mI_J, mL_J, mA_J, mJ_J, cI_I, cL_I, cA_I, cJ_I, cR_I, cN_I, cI_L, cL_L, cA_L, cJ_L, cR_L, cN_L, cI_A, cL_A, cA_A, cJ_A, cR_A, cN_A, cI_J, cL_J, cA_J, cJ_J, cR_J, cN_J, cI_R, cL_R, cA_R, cJ_R, cR_R, cN_R, cI_N, cL_N, cA_N, cJ_N, cR_N, cN_N, ↓reduceIte, Nat.reduceEqDiff, upd_at, updL_at] at h39
          exact absurd (nI_le (a := 64) hg (by omega)) h39
      · try simp only [mI_I, mL_I, mA_I, mJ_I, mI_L, mL_L, mA_L, mJ_L, mI_A, mL_A, mA_A, mJ_A, mI_J, mL_J, mA_J, mJ_J, cI_I, cL_I, cA_I, cJ_I, cR_I, cN_I, cI_L, cL_L, cA_L, cJ_L, cR_L, cN_L, cI_A, cL_A, cA_A, cJ_A, cR_A, cN_A, cI_J, cL_J, cA_J, cJ_J, cR_J, cN_J, cI_R, cL_R, cA_R, cJ_R, cR_R, cN_R, cI_N, cL_N, cA_N, cJ_N, cR_N, cN_N, ↓reduceIte, Nat.reduceEqDiff, upd_at, updL_at] at hb
        have htt : t < 69 := ix_lt (N := 69) hb
        have hL := hl t htt
        refine aw_iload_n (i := 1) C (dec D_Chip_test rfl) rfl rfl ?_
        refine aw_aload_n (i := 0) C (dec D_Chip_test rfl) rfl rfl ?_
        refine gf_Chip_11 C (dec D_Chip_test rfl) ?_
        refine aw_iload_n (i := 2) C (dec D_Chip_test rfl) rfl rfl ?_
        refine al_C4 C t (dec D_Chip_test rfl) (ix_of htt) ?_
        rw [hL.1]
        by_cases hz : cN c 16 (lp t) = 0
        · refine aw_instN C (Cn := "BubbleBox$Loop") (nm := "BubbleBox$StuckLoop") (by decide) (rcL hL.2.1 hz) (List.mem_of_getElem? (i := 480) (by decide +kernel)) (dec D_Chip_test rfl) ?_
          refine aw_if_eq (tgt := 27) C (dec D_Chip_test rfl) (by decide) (fun _ => ?_) (fun h_ => absurd (show (0 : Int32) = (0 : Int32) by decide) h_)
          refine aw_iconst (v := 1) C (dec D_Chip_test rfl) (by decide) ?_
          refine aw_iadd C (dec D_Chip_test rfl) ?_
          rw [show nI (gN c lp t) + (1 : Int32) = nI (gN c lp (t + 1)) from by rw [gN, gd, decide_eq_true hz]; exact nI_add _ 1]
          refine aw_istore_n (i := 1) C (dec D_Chip_test rfl) rfl (by decide) ?_
          refine aw_iinc C (dec D_Chip_test rfl) rfl (nI_inc t) (by decide) ?_
          refine aw_goto (tgt := 4) C (dec D_Chip_test rfl) (by decide) ?_
          refine AW.ls [(0, .ref (a 1 0)), (1, .int (nI (gN c lp (t + 1)))), (2, .int (nI (t + 1)))] rfl ?_
          exact ih (t + 1) (by omega) (by omega)
        · refine aw_instY C (ci := 6) rfl rfl (rcS hL.2.1 hz) (List.mem_of_getElem? (i := 480) (by decide +kernel)) (dec D_Chip_test rfl) ?_
          refine aw_if_eq (tgt := 27) C (dec D_Chip_test rfl) (by decide) (fun h_ => absurd h_ (show ¬ (1 : Int32) = (0 : Int32) by decide)) (fun _ => ?_)
          refine aw_iconst (v := 0) C (dec D_Chip_test rfl) (by decide) ?_
          refine aw_goto (tgt := 28) C (dec D_Chip_test rfl) (by decide) ?_
          refine aw_iadd C (dec D_Chip_test rfl) ?_
          rw [show nI (gN c lp t) + (0 : Int32) = nI (gN c lp (t + 1)) from by rw [gN, gd, decide_eq_false hz]; exact nI_add _ 0]
          refine aw_istore_n (i := 1) C (dec D_Chip_test rfl) rfl (by decide) ?_
          refine aw_iinc C (dec D_Chip_test rfl) rfl (nI_inc t) (by decide) ?_
          refine aw_goto (tgt := 4) C (dec D_Chip_test rfl) (by decide) ?_
          refine AW.ls [(0, .ref (a 1 0)), (1, .int (nI (gN c lp (t + 1)))), (2, .int (nI (t + 1)))] rfl ?_
          exact ih (t + 1) (by omega) (by omega)
  refine aw_iconst (v := 0) C (dec D_Chip_test rfl) (by decide) ?_
  refine aw_istore_n (i := 1) C (dec D_Chip_test rfl) rfl (by decide) ?_
  refine aw_iconst (v := 0) C (dec D_Chip_test rfl) (by decide) ?_
  refine aw_istore_n (i := 2) C (dec D_Chip_test rfl) rfl (by decide) ?_
  exact lpg 70 0 (by omega) (by omega)
