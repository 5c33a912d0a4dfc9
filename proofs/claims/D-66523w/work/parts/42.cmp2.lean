/-! the component: the chip reads and writes; printed by tools/m42.py -/
/-- the loops are the objects lp, no two the same -/
def LWf (c : CC) (lp : Nat → Nat) : Prop := ∀ k, k < 69 → cR c 4 0 k = some (lp k) ∧ lp k < cN c 15 0 ∧ (¬ cN c 16 (lp k) = 0 → B01 (cI c 9 (lp k))) ∧ ∀ k', k' < 69 → lp k = lp k' → k = k'
/-- the map is mp, and the pages hold d -/
def Dat (c : CC) (lp mp : Nat → Nat) (d : Nat → Int64) : Prop := ∀ k, k < 64 → cA c 5 0 k = nI (mp k) ∧ mp k < 69 ∧ cN c 16 (lp (mp k)) = 0 ∧ (∀ k', k' < 64 → mp k = mp k' → k = k') ∧ ∀ p, p < 101 → lB (cJ c 16 (lp (mp k))) p = bB (d p) k
def cBit (c : CC) (lp mp : Nat → Nat) (p : Nat) : Nat → Bool := fun k => lB (cJ c 16 (lp (mp k))) p
def cWrN (c : CC) (lp mp : Nat → Nat) (p : Nat) (v : Int64) : Nat → CC
  | 0 => c
  | k + 1 => sJ (cWrN c lp mp p v k) 16 (lp (mp k)) (lSet (cJ (cWrN c lp mp p v k) 16 (lp (mp k))) p (bI (bB v k)))
theorem cWrN_o (c : CC) (lp mp : Nat → Nat) (p : Nat) (v : Int64) : ∀ k, cI (cWrN c lp mp p v k) = cI c ∧ cL (cWrN c lp mp p v k) = cL c ∧ cA (cWrN c lp mp p v k) = cA c ∧ cR (cWrN c lp mp p v k) = cR c ∧ cN (cWrN c lp mp p v k) = cN c
  | 0 => ⟨rfl, rfl, rfl, rfl, rfl⟩
  | k + 1 => cWrN_o c lp mp p v k
theorem cWrN_J (c : CC) (lp mp : Nat → Nat) {p : Nat} (v : Int64) (hp : p < 101) (hi : ∀ k k', k < 64 → k' < 64 → lp (mp k) = lp (mp k') → k = k') {j : Nat} (hj : j < 64) (q : Nat) : ∀ k, k ≤ 64 → lB (cJ (cWrN c lp mp p v k) 16 (lp (mp j))) q = if j < k ∧ q = p then bB v j else lB (cJ c 16 (lp (mp j))) q
  | 0, _ => by rw [if_neg (fun z => absurd z.1 (Nat.not_lt_zero _))]; rfl
  | k + 1, hk => by
    have ih := cWrN_J c lp mp v hp hi hj q k (by omega)
    rw [cWrN, cJ_J, if_pos rfl]
    by_cases e : j = k
    · subst e
      rw [if_pos rfl, lSet_bit _ hp]
      by_cases e2 : q = p
      · rw [if_pos e2, if_pos ⟨by omega, e2⟩]
      · rw [if_neg e2, if_neg (fun z => e2 z.2), ih, if_neg (fun z => e2 z.2)]
    · rw [if_neg (fun z => e (hi _ _ hj (by omega) z)), ih]
      by_cases e2 : j < k ∧ q = p
      · rw [if_pos e2, if_pos ⟨by omega, e2.2⟩]
      · rw [if_neg e2, if_neg (fun z => e2 ⟨by omega, z.2⟩)]
theorem LWf.of {c c' : CC} {lp : Nat → Nat} (h : LWf c lp) (eR : cR c' = cR c) (eN : cN c' = cN c) (eI : cI c' 9 = cI c 9) : LWf c' lp := fun k hk => by rw [eR, eN, eI]; exact h k hk
theorem Dat.of {c c' : CC} {lp mp : Nat → Nat} {d : Nat → Int64} (h : Dat c lp mp d) (eA : cA c' 5 = cA c 5) (eN : cN c' = cN c) (eJ : cJ c' 16 = cJ c 16) : Dat c' lp mp d := fun k hk => by rw [eA, eN, eJ]; exact h k hk
theorem Dat.write {c : CC} {lp mp : Nat → Nat} {d : Nat → Int64} (h : Dat c lp mp d) (hl : LWf c lp) {p : Nat} (hp : p < 101) (v : Int64) : Dat (cWrN c lp mp p v 64) lp mp (vp_updL d p v) := by
  intro k hk
  have ho := cWrN_o c lp mp p v 64
  have h0 := h k hk
  have hi : ∀ k k', k < 64 → k' < 64 → lp (mp k) = lp (mp k') → k = k' := fun k k' hk hk' e => (h k hk).2.2.2.1 k' hk' ((hl _ (h k hk).2.1).2.2.2 _ (h k' hk').2.1 e)
  rw [ho.2.2.1, ho.2.2.2.2]
  refine ⟨h0.1, h0.2.1, h0.2.2.1, h0.2.2.2.1, fun q hq => ?_⟩
  rw [cWrN_J c lp mp v hp hi hk q 64 (by omega), updL_at]
  by_cases e : q = p
  · rw [if_pos ⟨hk, e⟩, if_pos e]
  · rw [if_neg (fun z => e z.2), if_neg e]; exact h0.2.2.2.2 q hq
theorem c_Chip_read (l : Launch) (G : GG) (a : AD) (c : CC) (m : MM) (o : OO) (p : Nat) (lp mp : Nat → Nat) (dd : Nat → Int64) (hp1 : p < 101) (hl : LWf c lp) (hD : Dat c lp mp dd) : CT l G y_Chip_read (.code y_Chip_read b_Chip_read 5 (some .long)) 1 0 0 (Fyes G) (wld G a c m o) [.ref (a 1 0), .int (nI p)] (fun r w2 => r = .inl (some (.long (dd p))) ∧ w2 = wld G a (cTurn c (nI p)) m o) := by
  refine CT.of (by decide) (Nat.le_of_ble_eq_true rfl) rfl ?_
  intro E hl hG hF C r hw hex hnm
  subst hl; subst hG
  have Fw : Cw E := fun a h => by rw [hF]; exact h
  have lp_ : ∀ (n t : Nat) , 64 - t < n → t ≤ 64 → AW E false 0 0 (wld (eG E) a (cTurn c (nI p)) m o) 10 [(0, .ref (a 1 0)), (1, .int (nI p)), (2, .long (rdN (cBit c lp mp p) t)), (4, .int (nI t))] [] := by
    intro n
    induction n with
    | zero => intro t  h1 h2; omega
    | succ n ih =>
      intro t  h1t h2t
      refine aw_iload C (dec D_Chip_read rfl) rfl ?_
      refine aw_bipush (v := 64) C (dec D_Chip_read rfl) (by decide) ?_
      refine aw_icmp_ge (tgt := 46) C (dec D_Chip_read rfl) (by decide) (fun hb => ?_) (fun hb => ?_)
      · try simp only [mI_I, mL_I, mA_I, mJ_I, mI_L, mL_L, mA_L, mJ_L, mI_A, mL_A, mA_A, mJ_A, mI_J, mL_J, mA_J, mJ_J, cI_I, cL_I, cA_I, cJ_I, cR_I, cN_I, cI_L, cL_L, cA_L, cJ_L, cR_L, cN_L, cI_A, cL_A, cA_A, cJ_A, cR_A, cN_A, cI_J, cL_J, cA_J, cJ_J, cR_J, cN_J, cI_R, cL_R, cA_R, cJ_R, cR_R, cN_R, cI_N, cL_N, cA_N, cJ_N, cR_N, cN_N, ↓reduceIte, Nat.reduceEqDiff, upd_at, updL_at] at hb
        have e9 : t = 64 := by have := ix_ge (N := 64) hb; omega
        subst e9
        refine aw_lload_n (i := 2) C (dec D_Chip_read rfl) rfl rfl ?_
        refine aw_ret_l C r (dec D_Chip_read rfl) (by decide) (by decide) ?_
        exact ⟨by rw [rdN_eq (f := cBit c lp mp p) (v := dd p) (fun k hk => (hD k hk).2.2.2.2 p hp1)], rfl⟩
      · try simp only [mI_I, mL_I, mA_I, mJ_I, mI_L, mL_L, mA_L, mJ_L, mI_A, mL_A, mA_A, mJ_A, mI_J, mL_J, mA_J, mJ_J, cI_I, cL_I, cA_I, cJ_I, cR_I, cN_I, cI_L, cL_L, cA_L, cJ_L, cR_L, cN_L, cI_A, cL_A, cA_A, cJ_A, cR_A, cN_A, cI_J, cL_J, cA_J, cJ_J, cR_J, cN_J, cI_R, cL_R, cA_R, cJ_R, cR_R, cN_R, cI_N, cL_N, cA_N, cJ_N, cR_N, cN_N, ↓reduceIte, Nat.reduceEqDiff, upd_at, updL_at] at hb
        have htt : t < 64 := ix_lt (N := 64) hb
        have hk := hD t htt
        have hL := hl (mp t) hk.2.1
        refine aw_lload_n (i := 2) C (dec D_Chip_read rfl) rfl rfl ?_
        refine aw_aload_n (i := 0) C (dec D_Chip_read rfl) rfl rfl ?_
        refine gf_Chip_11 C (dec D_Chip_read rfl) ?_
        refine aw_aload_n (i := 0) C (dec D_Chip_read rfl) rfl rfl ?_
        refine gf_Chip_17 C (dec D_Chip_read rfl) ?_
        refine aw_iload C (dec D_Chip_read rfl) rfl ?_
        refine al_C5 C t (dec D_Chip_read rfl) (ix_of htt) ?_
        rw [show cA (cTurn c (nI p)) 5 0 t = nI (mp t) from hk.1]
        refine al_C4 C (mp t) (dec D_Chip_read rfl) (ix_of hk.2.1) ?_
        rw [show cR (cTurn c (nI p)) 4 0 (mp t) = some (lp (mp t)) from hL.1]
        refine aw_iload_n (i := 1) C (dec D_Chip_read rfl) rfl rfl ?_
        refine aw_cv C ci_Chip_34 [_] (c_Loop_get _ _ _ _ _ _ (lp (mp t)) p hL.2.1 hp1) (dec D_Chip_read rfl) (rcL hL.2.1 hk.2.2.1) rfl fpP (Nat.le_of_ble_eq_true rfl) (by decide) ⟨by decide, by decide⟩ (fun v w2 hp => ?_) (fun _ _ h => by cases h.1)
        obtain ⟨hv, rfl⟩ := hp
        cases hv
        rw [show lGet (cJ (cTurn c (nI p)) 16 (lp (mp t))) p = bI (cBit c lp mp p t) from lGet_bit _ hp1]
        refine aw_i2l C (dec D_Chip_read rfl) ?_
        refine aw_iload C (dec D_Chip_read rfl) rfl ?_
        refine aw_lshl C (dec D_Chip_read rfl) ?_
        refine aw_lor C (dec D_Chip_read rfl) ?_
        refine aw_lstore_n (i := 2) C (dec D_Chip_read rfl) rfl (by decide) ?_
        refine aw_iinc C (dec D_Chip_read rfl) rfl (nI_inc t) (by decide) ?_
        refine aw_goto (tgt := 10) C (dec D_Chip_read rfl) (by decide) ?_
        refine AW.ls [(0, .ref (a 1 0)), (1, .int (nI p)), (2, .long (rdN (cBit c lp mp p) (t + 1))), (4, .int (nI (t + 1)))] rfl ?_
        exact ih (t + 1) (by omega) (by omega)
  refine aw_aload_n (i := 0) C (dec D_Chip_read rfl) rfl rfl ?_
  refine aw_iload_n (i := 1) C (dec D_Chip_read rfl) rfl rfl ?_
  refine aw_cv C ci_Chip_30 [_] (c_Chip_turnTo _ _ _ _ _ _ _) (dec D_Chip_read rfl) rcC rfl (fpW Fw) (Nat.le_of_ble_eq_true rfl) (by decide) ⟨by decide, by decide⟩ (fun v w2 hp => ?_) (fun _ _ h => by cases h.1)
  obtain ⟨hv, rfl⟩ := hp
  cases hv
  refine aw_lconst (v := 0) C (dec D_Chip_read rfl) (by decide) ?_
  refine aw_lstore_n (i := 2) C (dec D_Chip_read rfl) rfl (by decide) ?_
  refine aw_iconst (v := 0) C (dec D_Chip_read rfl) (by decide) ?_
  refine aw_istore C (dec D_Chip_read rfl) (by decide) ?_
  exact lp_ 65 0 (by omega) (by omega)
theorem c_Chip_write (l : Launch) (G : GG) (a : AD) (c : CC) (m : MM) (o : OO) (p : Nat) (v : Int64) (lp mp : Nat → Nat) (dd : Nat → Int64) (hp1 : p < 101) (hl : LWf c lp) (hD : Dat c lp mp dd) : CT l G y_Chip_write (.code y_Chip_write b_Chip_write 5 none) 1 0 0 (Fyes G) (wld G a c m o) [.ref (a 1 0), .int (nI p), .long v] (fun r w2 => r = .inl none ∧ w2 = wld G a (cWrN (cTurn c (nI p)) lp mp p v 64) m o) := by
  refine CT.of (by decide) (Nat.le_of_ble_eq_true rfl) rfl ?_
  intro E hl hG hF C r hw hex hnm
  subst hl; subst hG
  have Fw : Cw E := fun a h => by rw [hF]; exact h
  have lp_ : ∀ (n t : Nat) , 64 - t < n → t ≤ 64 → AW E false 0 0 (wld (eG E) a (cWrN (cTurn c (nI p)) lp mp p v t) m o) 8 [(0, .ref (a 1 0)), (1, .int (nI p)), (2, .long v), (4, .int (nI t))] [] := by
    intro n
    induction n with
    | zero => intro t  h1 h2; omega
    | succ n ih =>
      intro t  h1t h2t
      refine aw_iload C (dec D_Chip_write rfl) rfl ?_
      refine aw_bipush (v := 64) C (dec D_Chip_write rfl) (by decide) ?_
      refine aw_icmp_ge (tgt := 44) C (dec D_Chip_write rfl) (by decide) (fun hb => ?_) (fun hb => ?_)
      · try simp only [mI_I, mL_I, mA_I, mJ_I, mI_L, mL_L, mA_L, mJ_L, mI_A, mL_A, mA_A, mJ_A, mI_J, mL_J, mA_J, mJ_J, cI_I, cL_I, cA_I, cJ_I, cR_I, cN_I, cI_L, cL_L, cA_L, cJ_L, cR_L, cN_L, cI_A, cL_A, cA_A, cJ_A, cR_A, cN_A, cI_J, cL_J, cA_J, cJ_J, cR_J, cN_J, cI_R, cL_R, cA_R, cJ_R, cR_R, cN_R, cI_N, cL_N, cA_N, cJ_N, cR_N, cN_N, ↓reduceIte, Nat.reduceEqDiff, upd_at, updL_at] at hb
        have e9 : t = 64 := by have := ix_ge (N := 64) hb; omega
        subst e9
        refine aw_ret_v C r (dec D_Chip_write rfl) (by decide) (by decide) ?_
        exact ⟨rfl, rfl⟩
      · try simp only [mI_I, mL_I, mA_I, mJ_I, mI_L, mL_L, mA_L, mJ_L, mI_A, mL_A, mA_A, mJ_A, mI_J, mL_J, mA_J, mJ_J, cI_I, cL_I, cA_I, cJ_I, cR_I, cN_I, cI_L, cL_L, cA_L, cJ_L, cR_L, cN_L, cI_A, cL_A, cA_A, cJ_A, cR_A, cN_A, cI_J, cL_J, cA_J, cJ_J, cR_J, cN_J, cI_R, cL_R, cA_R, cJ_R, cR_R, cN_R, cI_N, cL_N, cA_N, cJ_N, cR_N, cN_N, ↓reduceIte, Nat.reduceEqDiff, upd_at, updL_at] at hb
        have htt : t < 64 := ix_lt (N := 64) hb
        have hk := hD t htt
        have hL := hl (mp t) hk.2.1
        have ho := cWrN_o (cTurn c (nI p)) lp mp p v t
        refine aw_aload_n (i := 0) C (dec D_Chip_write rfl) rfl rfl ?_
        refine gf_Chip_11 C (dec D_Chip_write rfl) ?_
        refine aw_aload_n (i := 0) C (dec D_Chip_write rfl) rfl rfl ?_
        refine gf_Chip_17 C (dec D_Chip_write rfl) ?_
        refine aw_iload C (dec D_Chip_write rfl) rfl ?_
        refine al_C5 C t (dec D_Chip_write rfl) (ix_of htt) ?_
        rw [show cA (cWrN (cTurn c (nI p)) lp mp p v t) 5 0 t = nI (mp t) from by rw [ho.2.2.1]; exact hk.1]
        refine al_C4 C (mp t) (dec D_Chip_write rfl) (ix_of hk.2.1) ?_
        rw [show cR (cWrN (cTurn c (nI p)) lp mp p v t) 4 0 (mp t) = some (lp (mp t)) from by rw [ho.2.2.2.1]; exact hL.1]
        have hN : lp (mp t) < cN (cWrN (cTurn c (nI p)) lp mp p v t) 15 0 := by rw [ho.2.2.2.2]; exact hL.2.1
        have hZ : cN (cWrN (cTurn c (nI p)) lp mp p v t) 16 (lp (mp t)) = 0 := by rw [ho.2.2.2.2]; exact hk.2.2.1
        refine aw_iload_n (i := 1) C (dec D_Chip_write rfl) rfl rfl ?_
        refine aw_lload_n (i := 2) C (dec D_Chip_write rfl) rfl rfl ?_
        refine aw_iload C (dec D_Chip_write rfl) rfl ?_
        refine aw_lushr C (dec D_Chip_write rfl) ?_
        refine aw_l2i C (dec D_Chip_write rfl) ?_
        refine aw_iconst (v := 1) C (dec D_Chip_write rfl) (by decide) ?_
        refine aw_iand C (dec D_Chip_write rfl) ?_
        rw [show (v.toUInt64 >>> ((nI t).toInt64.toUInt64 &&& Int64.toUInt64 63)).toInt64.toInt32 &&& 1 = bI (bB v t) from by have z := ush_bit v (p := t) (by omega); rw [show t % 64 = t by omega] at z; exact z]
        refine aw_cv C ci_Chip_38 [_, _] (c_Loop_set _ _ _ _ _ _ (lp (mp t)) p _ hN hp1) (dec D_Chip_write rfl) (rcL hN hZ) rfl (fpW Fw) (Nat.le_of_ble_eq_true rfl) (by decide) ⟨by decide, by decide⟩ (fun v w2 hp => ?_) (fun _ _ h => by cases h.1)
        obtain ⟨hv, rfl⟩ := hp
        cases hv
        refine aw_iinc C (dec D_Chip_write rfl) rfl (nI_inc t) (by decide) ?_
        refine aw_goto (tgt := 8) C (dec D_Chip_write rfl) (by decide) ?_
        exact ih (t + 1) (by omega) (by omega)
  refine aw_aload_n (i := 0) C (dec D_Chip_write rfl) rfl rfl ?_
  refine aw_iload_n (i := 1) C (dec D_Chip_write rfl) rfl rfl ?_
  refine aw_cv C ci_Chip_30 [_] (c_Chip_turnTo _ _ _ _ _ _ _) (dec D_Chip_write rfl) rcC rfl (fpW Fw) (Nat.le_of_ble_eq_true rfl) (by decide) ⟨by decide, by decide⟩ (fun v w2 hp => ?_) (fun _ _ h => by cases h.1)
  obtain ⟨hv, rfl⟩ := hp
  cases hv
  refine aw_iconst (v := 0) C (dec D_Chip_write rfl) (by decide) ?_
  refine aw_istore C (dec D_Chip_write rfl) (by decide) ?_
  exact lp_ 65 0 (by omega) (by omega)
