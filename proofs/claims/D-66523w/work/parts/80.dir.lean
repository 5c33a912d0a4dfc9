/-! the directory: put, cut; printed by tools/m80.py -/
def cPutN (c : CC) (j : Nat) (k : Nat → Nat) (n p : Nat) : CC := if n = 0 then sI (sA c 8 0 (upd (cA c 8 0) p 1)) 11 j (nI p) else sA (sA c 8 0 (upd (cA c 8 0) p 1)) 7 0 (upd (cA c 7 0) (k (n - 1)) (nI p))
def cPutO (c : CC) (p old : Nat) : CC := sA (sA (sA c 7 0 (upd (cA c 7 0) p (cA c 7 0 old))) 7 0 (upd (upd (cA c 7 0) p (cA c 7 0 old)) old 0)) 8 0 (upd (cA c 8 0) old 0)
theorem c_Dir_putn (l : Launch) (G : GG) (a : AD) (c : CC) (m : MM) (o : OO) (j i n p : Nat) (k : Nat → Nat) (hj : j < cN c 17 0) (hl : cI c 12 j = nI n ∧ n ≤ 488) (hi : pg n = i) (hp1 : p < 101) (h0 : 0 < i → cI c 11 j = nI (k 0)) (hk : ∀ t, t < i → k t < 101) (hk2 : ∀ t, t + 1 < i → cA c 7 0 (k t) = nI (k (t + 1))) : CT l G y_Dir_put (.code y_Dir_put b_Dir_put 5 none) 1 0 0 (Fyes G) (wld G a c m o) [.ref (a 3 0), .ref (a 17 j), .int (nI i), .int (nI p)] (fun r w2 => r = .inl none ∧ w2 = wld G a (cPutN c j k i p) m o) := by
  refine CT.of (by decide) (Nat.le_of_ble_eq_true rfl) rfl ?_
  intro E hl hG hF C r hw hex hnm
  subst hl; subst hG
  have Fw : Cw E := fun a h => by rw [hF]; exact h
  have hpg := pg_le hl.2
  refine aw_iload_n (i := 2) C (dec D_Dir_put rfl) rfl rfl ?_
  refine aw_aload_n (i := 1) C (dec D_Dir_put rfl) rfl rfl ?_
  refine aw_cv C ci_Dir_36 [] (c_File_pages _ _ _ _ _ _ j n hj hl) (dec D_Dir_put rfl) (rcF hj) rfl fpP (Nat.le_of_ble_eq_true rfl) (by decide) ⟨by decide, by decide⟩ (fun v w2 hp => ?_) (fun _ _ h => by cases h.1)
  obtain ⟨hv, rfl⟩ := hp
  cases hv
  rw [hi]
  refine aw_icmp_ge (tgt := 17) C (dec D_Dir_put rfl) (by decide) (fun h5 => ?_) (fun h5 => ?_)
  · try simp only [mI_I, mL_I, mA_I, mJ_I, mI_L, mL_L, mA_L, mJ_L, mI_A, mL_A, mA_A, mJ_A, mI_J, mL_J, mA_J, mJ_J, cI_I, cL_I, cA_I, cJ_I, cR_I, cN_I, cI_L, cL_L, cA_L, cJ_L, cR_L, cN_L, cI_A, cL_A, cA_A, cJ_A, cR_A, cN_A, cI_J, cL_J, cA_J, cJ_J, cR_J, cN_J, cI_R, cL_R, cA_R, cJ_R, cR_R, cN_R, cI_N, cL_N, cA_N, cJ_N, cR_N, cN_N, ↓reduceIte, Nat.reduceEqDiff, upd_at, updL_at] at h5
    refine aw_iconst (v := 0) C (dec D_Dir_put rfl) (by decide) ?_
    refine aw_istore C (dec D_Dir_put rfl) (by decide) ?_
    refine aw_iload C (dec D_Dir_put rfl) rfl ?_
    refine aw_if_le (tgt := 54) C (dec D_Dir_put rfl) (by decide) (fun _ => ?_) (fun h_ => absurd (show (0 : Int32) ≤ (0 : Int32) by decide) h_)
    refine aw_aload_n (i := 0) C (dec D_Dir_put rfl) rfl rfl ?_
    refine gf_Dir_21 C (dec D_Dir_put rfl) ?_
    refine aw_iload_n (i := 3) C (dec D_Dir_put rfl) rfl rfl ?_
    refine aw_iconst (v := 1) C (dec D_Dir_put rfl) (by decide) ?_
    refine as_C8 C Fw p bz1 (dec D_Dir_put rfl) (ix_of hp1) ?_
    refine aw_iload_n (i := 2) C (dec D_Dir_put rfl) rfl rfl ?_
    refine aw_if_ne (tgt := 73) C (dec D_Dir_put rfl) (by decide) (fun h62 => ?_) (fun h62 => ?_)
    · have e0 : ¬ i = 0 := fun z => h62 (by rw [z]; rfl)
      refine aw_aload_n (i := 0) C (dec D_Dir_put rfl) rfl rfl ?_
      refine gf_Dir_17 C (dec D_Dir_put rfl) ?_
      refine aw_aload_n (i := 0) C (dec D_Dir_put rfl) rfl rfl ?_
      refine aw_aload_n (i := 1) C (dec D_Dir_put rfl) rfl rfl ?_
      refine aw_iload_n (i := 2) C (dec D_Dir_put rfl) rfl rfl ?_
      refine aw_iconst (v := 1) C (dec D_Dir_put rfl) (by decide) ?_
      refine aw_isub C (dec D_Dir_put rfl) ?_
      rw [show (1 : Int32) = nI 1 from rfl, pk_sub (by omega)]
      refine aw_cv C ci_Dir_40 [_, _] (c_Dir_pageOf _ _ _ _ _ _ j (i - 1) k (by exact hj) (by omega) (by exact (h0 (by omega))) (fun t ht => ⟨hk t (by omega), by exact hk2 t (by omega)⟩)) (dec D_Dir_put rfl) rcD rfl fpP (Nat.le_of_ble_eq_true rfl) (by decide) ⟨by decide, by decide⟩ (fun v w2 hp => ?_) (fun _ _ h => by cases h.1)
      obtain ⟨hv, rfl⟩ := hp
      cases hv
      refine aw_iload_n (i := 3) C (dec D_Dir_put rfl) rfl rfl ?_
      refine as_C7 C Fw (k (i - 1)) (dec D_Dir_put rfl) (ix_of (hk (i - 1) (by omega))) ?_
      refine aw_ret_v C r (dec D_Dir_put rfl) (by decide) (by decide) ?_
      exact ⟨rfl, by first | (rw [cPutN, if_neg e0]; done) | (rw [cPutN, if_neg e0]; rfl)⟩
    · have e0 : i = 0 := (nI_eq (a := i) (b := 0) (by omega) (by omega)).mp h62
      refine aw_aload_n (i := 1) C (dec D_Dir_put rfl) rfl rfl ?_
      refine aw_iload_n (i := 3) C (dec D_Dir_put rfl) rfl rfl ?_
      refine pf_Dir_32 C Fw (by exact hj) (dec D_Dir_put rfl) ?_
      refine aw_goto (tgt := 87) C (dec D_Dir_put rfl) (by decide) ?_
      refine aw_ret_v C r (dec D_Dir_put rfl) (by decide) (by decide) ?_
      exact ⟨rfl, by first | (rw [cPutN, if_pos e0]; done) | (rw [cPutN, if_pos e0]; rfl)⟩
  · try simp only [mI_I, mL_I, mA_I, mJ_I, mI_L, mL_L, mA_L, mJ_L, mI_A, mL_A, mA_A, mJ_A, mI_J, mL_J, mA_J, mJ_J, cI_I, cL_I, cA_I, cJ_I, cR_I, cN_I, cI_L, cL_L, cA_L, cJ_L, cR_L, cN_L, cI_A, cL_A, cA_A, cJ_A, cR_A, cN_A, cI_J, cL_J, cA_J, cJ_J, cR_J, cN_J, cI_R, cL_R, cA_R, cJ_R, cR_R, cN_R, cI_N, cL_N, cA_N, cJ_N, cR_N, cN_N, ↓reduceIte, Nat.reduceEqDiff, upd_at, updL_at] at h5
    exact absurd (nI_le (Nat.le_refl i) (by omega)) h5
theorem c_Dir_puto (l : Launch) (G : GG) (a : AD) (c : CC) (m : MM) (o : OO) (j i n p : Nat) (k : Nat → Nat) (hj : j < cN c 17 0) (hl : cI c 12 j = nI n ∧ n ≤ 488) (hi : i < pg n) (hp1 : p < 101) (h0 : cI c 11 j = nI (k 0)) (hk : ∀ t, t ≤ i → 0 < k t ∧ k t < 101 ∧ ¬ k t = p) (hk2 : ∀ t, t < i → ¬ k t = k i ∧ cA c 7 0 (k t) = nI (k (t + 1))) : CT l G y_Dir_put (.code y_Dir_put b_Dir_put 5 none) 1 0 0 (Fyes G) (wld G a c m o) [.ref (a 3 0), .ref (a 17 j), .int (nI i), .int (nI p)] (fun r w2 => r = .inl none ∧ w2 = wld G a (cPutN (cPutO c p (k i)) j k i p) m o) := by
  refine CT.of (by decide) (Nat.le_of_ble_eq_true rfl) rfl ?_
  intro E hl hG hF C r hw hex hnm
  subst hl; subst hG
  have Fw : Cw E := fun a h => by rw [hF]; exact h
  have hpg := pg_le hl.2
  have hki := hk i (Nat.le_refl i)
  refine aw_iload_n (i := 2) C (dec D_Dir_put rfl) rfl rfl ?_
  refine aw_aload_n (i := 1) C (dec D_Dir_put rfl) rfl rfl ?_
  refine aw_cv C ci_Dir_36 [] (c_File_pages _ _ _ _ _ _ j n hj hl) (dec D_Dir_put rfl) (rcF hj) rfl fpP (Nat.le_of_ble_eq_true rfl) (by decide) ⟨by decide, by decide⟩ (fun v w2 hp => ?_) (fun _ _ h => by cases h.1)
  obtain ⟨hv, rfl⟩ := hp
  cases hv
  refine aw_icmp_ge (tgt := 17) C (dec D_Dir_put rfl) (by decide) (fun h5 => ?_) (fun h5 => ?_)
  · exact absurd h5 (nI_ge hi (by omega))
  · refine aw_aload_n (i := 0) C (dec D_Dir_put rfl) rfl rfl ?_
    refine aw_aload_n (i := 1) C (dec D_Dir_put rfl) rfl rfl ?_
    refine aw_iload_n (i := 2) C (dec D_Dir_put rfl) rfl rfl ?_
    refine aw_cv C ci_Dir_40 [_, _] (c_Dir_pageOf _ _ _ _ _ _ j i k hj (by omega) h0 (fun t ht => ⟨(hk t (by omega)).2.1, (hk2 t ht).2⟩)) (dec D_Dir_put rfl) rcD rfl fpP (Nat.le_of_ble_eq_true rfl) (by decide) ⟨by decide, by decide⟩ (fun v w2 hp => ?_) (fun _ _ h => by cases h.1)
    obtain ⟨hv, rfl⟩ := hp
    cases hv
    refine aw_goto (tgt := 18) C (dec D_Dir_put rfl) (by decide) ?_
    refine aw_istore C (dec D_Dir_put rfl) (by decide) ?_
    refine aw_iload C (dec D_Dir_put rfl) rfl ?_
    refine aw_if_le (tgt := 54) C (dec D_Dir_put rfl) (by decide) (fun h22 => ?_) (fun h22 => ?_)
    · exact absurd h22 (nI_nle hki.1 (by omega))
    · refine aw_aload_n (i := 0) C (dec D_Dir_put rfl) rfl rfl ?_
      refine gf_Dir_17 C (dec D_Dir_put rfl) ?_
      refine aw_iload_n (i := 3) C (dec D_Dir_put rfl) rfl rfl ?_
      refine aw_aload_n (i := 0) C (dec D_Dir_put rfl) rfl rfl ?_
      refine gf_Dir_17 C (dec D_Dir_put rfl) ?_
      refine aw_iload C (dec D_Dir_put rfl) rfl ?_
      refine al_C7 C (k i) (dec D_Dir_put rfl) (ix_of hki.2.1) ?_
      refine as_C7 C Fw p (dec D_Dir_put rfl) (ix_of hp1) ?_
      refine aw_aload_n (i := 0) C (dec D_Dir_put rfl) rfl rfl ?_
      refine gf_Dir_17 C (dec D_Dir_put rfl) ?_
      refine aw_iload C (dec D_Dir_put rfl) rfl ?_
      refine aw_iconst (v := 0) C (dec D_Dir_put rfl) (by decide) ?_
      refine as_C7 C Fw (k i) (dec D_Dir_put rfl) (ix_of hki.2.1) ?_
      refine aw_aload_n (i := 0) C (dec D_Dir_put rfl) rfl rfl ?_
      refine gf_Dir_21 C (dec D_Dir_put rfl) ?_
      refine aw_iload C (dec D_Dir_put rfl) rfl ?_
      refine aw_iconst (v := 0) C (dec D_Dir_put rfl) (by decide) ?_
      refine as_C8 C Fw (k i) bz0 (dec D_Dir_put rfl) (ix_of hki.2.1) ?_
      refine aw_aload_n (i := 0) C (dec D_Dir_put rfl) rfl rfl ?_
      refine gf_Dir_21 C (dec D_Dir_put rfl) ?_
      refine aw_iload_n (i := 3) C (dec D_Dir_put rfl) rfl rfl ?_
      refine aw_iconst (v := 1) C (dec D_Dir_put rfl) (by decide) ?_
      refine as_C8 C Fw p bz1 (dec D_Dir_put rfl) (ix_of hp1) ?_
      refine aw_iload_n (i := 2) C (dec D_Dir_put rfl) rfl rfl ?_
      have hx : ∀ t, t < i → cA (cPutO c p (k i)) 7 0 (k t) = nI (k (t + 1)) := fun t ht => by
        show upd (upd (cA c 7 0) p (cA c 7 0 (k i))) (k i) 0 (k t) = _
        rw [upd_at, if_neg (hk2 t ht).1, upd_at, if_neg (hk t (by omega)).2.2]; exact (hk2 t ht).2
      refine aw_if_ne (tgt := 73) C (dec D_Dir_put rfl) (by decide) (fun h62 => ?_) (fun h62 => ?_)
      · have e0 : ¬ i = 0 := fun z => h62 (by rw [z]; rfl)
        refine aw_aload_n (i := 0) C (dec D_Dir_put rfl) rfl rfl ?_
        refine gf_Dir_17 C (dec D_Dir_put rfl) ?_
        refine aw_aload_n (i := 0) C (dec D_Dir_put rfl) rfl rfl ?_
        refine aw_aload_n (i := 1) C (dec D_Dir_put rfl) rfl rfl ?_
        refine aw_iload_n (i := 2) C (dec D_Dir_put rfl) rfl rfl ?_
        refine aw_iconst (v := 1) C (dec D_Dir_put rfl) (by decide) ?_
        refine aw_isub C (dec D_Dir_put rfl) ?_
        rw [show (1 : Int32) = nI 1 from rfl, pk_sub (by omega)]
        refine aw_cv C ci_Dir_40 [_, _] (c_Dir_pageOf _ _ _ _ _ _ j (i - 1) k (by exact hj) (by omega) (by exact h0) (fun t ht => ⟨(hk t (by omega)).2.1, by exact hx t (by omega)⟩)) (dec D_Dir_put rfl) rcD rfl fpP (Nat.le_of_ble_eq_true rfl) (by decide) ⟨by decide, by decide⟩ (fun v w2 hp => ?_) (fun _ _ h => by cases h.1)
        obtain ⟨hv, rfl⟩ := hp
        cases hv
        refine aw_iload_n (i := 3) C (dec D_Dir_put rfl) rfl rfl ?_
        refine as_C7 C Fw (k (i - 1)) (dec D_Dir_put rfl) (ix_of (hk (i - 1) (by omega)).2.1) ?_
        refine aw_ret_v C r (dec D_Dir_put rfl) (by decide) (by decide) ?_
        exact ⟨rfl, by first | (rw [cPutN, if_neg e0]; done) | (rw [cPutN, if_neg e0]; rfl)⟩
      · have e0 : i = 0 := (nI_eq (a := i) (b := 0) (by omega) (by omega)).mp h62
        refine aw_aload_n (i := 1) C (dec D_Dir_put rfl) rfl rfl ?_
        refine aw_iload_n (i := 3) C (dec D_Dir_put rfl) rfl rfl ?_
        refine pf_Dir_32 C Fw (by exact hj) (dec D_Dir_put rfl) ?_
        refine aw_goto (tgt := 87) C (dec D_Dir_put rfl) (by decide) ?_
        refine aw_ret_v C r (dec D_Dir_put rfl) (by decide) (by decide) ?_
        exact ⟨rfl, by first | (rw [cPutN, if_pos e0]; done) | (rw [cPutN, if_pos e0]; rfl)⟩
theorem c_Dir_cut (l : Launch) (G : GG) (a : AD) (c : CC) (m : MM) (o : OO) (j k0 n : Nat) (k : Nat → Nat) (hj : j < cN c 17 0) (hl : cI c 12 j = nI n ∧ n ≤ 488) (hi : k0 ≤ pg n) (h0 : 0 < pg n → cI c 11 j = nI (k 0)) (hk : ∀ t, t < pg n → k t < 101) (hk2 : ∀ t, t < pg n → cA c 7 0 (k t) = nI (k (t + 1))) (hk3 : ∀ t t', t < pg n → t' < pg n → k t = k t' → t = t') (hk4 : k (pg n) = 0) : CT l G y_Dir_cut (.code y_Dir_cut b_Dir_cut 7 (some .int)) 1 0 0 (Fyes G) (wld G a c m o) [.ref (a 3 0), .ref (a 17 j), .int (nI k0)] (fun r w2 => r = .inl (some (.int (nI (pg n - k0)))) ∧ w2 = wld G a (cCut c j k k0 (pg n)) m o) := by
  refine CT.of (by decide) (Nat.le_of_ble_eq_true rfl) rfl ?_
  intro E hl hG hF C r hw hex hnm
  subst hl; subst hG
  have Fw : Cw E := fun a h => by rw [hF]; exact h
  have hpg := pg_le hl.2
  have ho0 := cCut0_o c j k k0 (pg n)
  have lp : ∀ (n9 t : Nat), pg n - (k0 + t) < n9 → k0 + t ≤ pg n → AW E false 0 0 (wld (eG E) a (cCutN (cCut0 c j k k0 (pg n)) j k k0 t) m o) 57 [(0, .ref (a 3 0)), (1, .ref (a 17 j)), (2, .int (nI k0)), (3, .int (nI (pg n))), (4, .int (nI (k (k0 + t)))), (5, .int (nI (k0 + t)))] [] := by
    intro n9
    induction n9 with
    | zero => intro t h1 h2; omega
    | succ n9 ih =>
      intro t h1t h2t
      refine aw_iload C (dec D_Dir_cut rfl) rfl ?_
      refine aw_iload_n (i := 3) C (dec D_Dir_cut rfl) rfl rfl ?_
      refine aw_icmp_ge (tgt := 117) C (dec D_Dir_cut rfl) (by decide) (fun hb => ?_) (fun hb => ?_)
      · try simp only [mI_I, mL_I, mA_I, mJ_I, mI_L, mL_L, mA_L, mJ_L, mI_A, mL_A, mA_A, mJ_A, mI_J, mL_J, mA_J, mJ_J, cI_I, cL_I, cA_I, cJ_I, cR_I, cN_I, cI_L, cL_L, cA_L, cJ_L, cR_L, cN_L, cI_A, cL_A, cA_A, cJ_A, cR_A, cN_A, cI_J, cL_J, cA_J, cJ_J, cR_J, cN_J, cI_R, cL_R, cA_R, cJ_R, cR_R, cN_R, cI_N, cL_N, cA_N, cJ_N, cR_N, cN_N, ↓reduceIte, Nat.reduceEqDiff, upd_at, updL_at] at hb
        have e9 : pg n - k0 = t := by have := ix_ge (N := pg n) hb; omega
        refine aw_iconst (v := 0) C (dec D_Dir_cut rfl) (by decide) ?_
        refine aw_iload_n (i := 3) C (dec D_Dir_cut rfl) rfl rfl ?_
        refine aw_iload_n (i := 2) C (dec D_Dir_cut rfl) rfl rfl ?_
        refine aw_isub C (dec D_Dir_cut rfl) ?_
        rw [pk_sub (by omega)]
        refine aw_cs C ci_Dir_56 [_, _] (c_Math_max _ _ _ _ _ _ _ _) (dec D_Dir_cut rfl) rfl fpP (Nat.le_of_ble_eq_true rfl) (by decide) ⟨by decide, by decide⟩ (fun v w2 hp => ?_) (fun _ _ h => by cases h.1)
        obtain ⟨hv, rfl⟩ := hp
        cases hv
        rw [show imx 0 (nI (pg n - k0)) = nI (pg n - k0) from by unfold imx; split; rfl; next h => exact (by have := mt (nI_ltI (a := 0) (b := pg n - k0) (by omega) (by omega)).mpr h; rw [show pg n - k0 = 0 by omega]; rfl)]
        refine aw_ret_i C r (dec D_Dir_cut rfl) rfl (by decide) (by decide) ?_
        exact ⟨rfl, by rw [cCut, e9]⟩
      · try simp only [mI_I, mL_I, mA_I, mJ_I, mI_L, mL_L, mA_L, mJ_L, mI_A, mL_A, mA_A, mJ_A, mI_J, mL_J, mA_J, mJ_J, cI_I, cL_I, cA_I, cJ_I, cR_I, cN_I, cI_L, cL_L, cA_L, cJ_L, cR_L, cN_L, cI_A, cL_A, cA_A, cJ_A, cR_A, cN_A, cI_J, cL_J, cA_J, cJ_J, cR_J, cN_J, cI_R, cL_R, cA_R, cJ_R, cR_R, cN_R, cI_N, cL_N, cA_N, cJ_N, cR_N, cN_N, ↓reduceIte, Nat.reduceEqDiff, upd_at, updL_at] at hb
        have htt : k0 + t < pg n := ix_lt (N := pg n) hb
        have hkt := hk (k0 + t) (by omega)
        have ho := cCutN_o (cCut0 c j k k0 (pg n)) j k k0 t
        have hj2 : j < cN (cCutN (cCut0 c j k k0 (pg n)) j k k0 t) 17 0 := by rw [ho.2.1, ho0.2.1]; exact hj
        have hnx : cA (cCutN (cCut0 c j k k0 (pg n)) j k k0 t) 7 0 (k (k0 + t)) = nI (k (k0 + t + 1)) := by
          rw [(cCutN_78 (cCut0 c j k k0 (pg n)) j k k0 7 (.inl rfl) t).2 _ (fun s hs e => by have := hk3 (k0 + s) (k0 + t) (by omega) (by omega) e; omega), ho0.2.2.2.2.2.2.2]
          split
          · rw [upd_at, if_neg (fun e => by have := hk3 (k0 + t) (k0 - 1) (by omega) (by omega) e; omega)]; exact hk2 _ (by omega)
          · exact hk2 _ (by omega)
        have ih9 := ih (t + 1) (by omega) (by omega)
        rw [cCutN, cCutS, cCutW] at ih9
        generalize cCutN (cCut0 c j k k0 (pg n)) j k k0 t = c9 at ho hj2 hnx ih9 ⊢
        refine aw_aload_n (i := 0) C (dec D_Dir_cut rfl) rfl rfl ?_
        refine gf_Dir_17 C (dec D_Dir_cut rfl) ?_
        refine aw_iload C (dec D_Dir_cut rfl) rfl ?_
        refine al_C7 C (k (k0 + t)) (dec D_Dir_cut rfl) (ix_of hkt) ?_
        rw [hnx]
        refine aw_istore C (dec D_Dir_cut rfl) (by decide) ?_
        refine aw_aload_n (i := 1) C (dec D_Dir_cut rfl) rfl rfl ?_
        refine gf_Dir_44 C hj2 (dec D_Dir_cut rfl) ?_
        refine gf_Dir_48 C hj2 (dec D_Dir_cut rfl) ?_
        refine aw_iload C (dec D_Dir_cut rfl) rfl ?_
        refine aw_icmp_ne (tgt := 91) C (dec D_Dir_cut rfl) (by decide) (fun h81 => ?_) (fun h81 => ?_)
        · refine aw_aload_n (i := 0) C (dec D_Dir_cut rfl) rfl rfl ?_
          refine gf_Dir_17 C (dec D_Dir_cut rfl) ?_
          refine aw_iload C (dec D_Dir_cut rfl) rfl ?_
          refine aw_iconst (v := 0) C (dec D_Dir_cut rfl) (by decide) ?_
          refine as_C7 C Fw (k (k0 + t)) (dec D_Dir_cut rfl) (ix_of hkt) ?_
          refine aw_aload_n (i := 0) C (dec D_Dir_cut rfl) rfl rfl ?_
          refine gf_Dir_21 C (dec D_Dir_cut rfl) ?_
          refine aw_iload C (dec D_Dir_cut rfl) rfl ?_
          refine aw_iconst (v := 0) C (dec D_Dir_cut rfl) (by decide) ?_
          refine as_C8 C Fw (k (k0 + t)) bz0 (dec D_Dir_cut rfl) (ix_of hkt) ?_
          refine aw_iload C (dec D_Dir_cut rfl) rfl ?_
          refine aw_istore C (dec D_Dir_cut rfl) (by decide) ?_
          refine aw_iinc C (dec D_Dir_cut rfl) rfl (nI_inc (k0 + t)) (by decide) ?_
          refine aw_goto (tgt := 57) C (dec D_Dir_cut rfl) (by decide) ?_
          rw [if_neg h81] at ih9
          refine AW.ls [(0, .ref (a 3 0)), (1, .ref (a 17 j)), (2, .int (nI k0)), (3, .int (nI (pg n))), (4, .int (nI (k (k0 + (t + 1))))), (5, .int (nI (k0 + (t + 1))))] rfl ?_
          exact ih9
        · refine aw_aload_n (i := 1) C (dec D_Dir_cut rfl) rfl rfl ?_
          refine gf_Dir_44 C hj2 (dec D_Dir_cut rfl) ?_
          refine aw_cv C ci_Dir_53 [] (c_Win_empty _ _ _ _ _ _ j hj2) (dec D_Dir_cut rfl) (rcW hj2) rfl (fpW Fw) (Nat.le_of_ble_eq_true rfl) (by decide) ⟨by decide, by decide⟩ (fun v w2 hp => ?_) (fun _ _ h => by cases h.1)
          obtain ⟨hv, rfl⟩ := hp
          cases hv
          refine aw_aload_n (i := 0) C (dec D_Dir_cut rfl) rfl rfl ?_
          refine gf_Dir_17 C (dec D_Dir_cut rfl) ?_
          refine aw_iload C (dec D_Dir_cut rfl) rfl ?_
          refine aw_iconst (v := 0) C (dec D_Dir_cut rfl) (by decide) ?_
          refine as_C7 C Fw (k (k0 + t)) (dec D_Dir_cut rfl) (ix_of hkt) ?_
          refine aw_aload_n (i := 0) C (dec D_Dir_cut rfl) rfl rfl ?_
          refine gf_Dir_21 C (dec D_Dir_cut rfl) ?_
          refine aw_iload C (dec D_Dir_cut rfl) rfl ?_
          refine aw_iconst (v := 0) C (dec D_Dir_cut rfl) (by decide) ?_
          refine as_C8 C Fw (k (k0 + t)) bz0 (dec D_Dir_cut rfl) (ix_of hkt) ?_
          refine aw_iload C (dec D_Dir_cut rfl) rfl ?_
          refine aw_istore C (dec D_Dir_cut rfl) (by decide) ?_
          refine aw_iinc C (dec D_Dir_cut rfl) rfl (nI_inc (k0 + t)) (by decide) ?_
          refine aw_goto (tgt := 57) C (dec D_Dir_cut rfl) (by decide) ?_
          rw [if_pos h81] at ih9
          refine AW.ls [(0, .ref (a 3 0)), (1, .ref (a 17 j)), (2, .int (nI k0)), (3, .int (nI (pg n))), (4, .int (nI (k (k0 + (t + 1))))), (5, .int (nI (k0 + (t + 1))))] rfl ?_
          exact ih9
  refine aw_aload_n (i := 1) C (dec D_Dir_cut rfl) rfl rfl ?_
  refine aw_cv C ci_Dir_36 [] (c_File_pages _ _ _ _ _ _ j n hj hl) (dec D_Dir_cut rfl) (rcF hj) rfl fpP (Nat.le_of_ble_eq_true rfl) (by decide) ⟨by decide, by decide⟩ (fun v w2 hp => ?_) (fun _ _ h => by cases h.1)
  obtain ⟨hv, rfl⟩ := hp
  cases hv
  refine aw_istore_n (i := 3) C (dec D_Dir_cut rfl) rfl (by decide) ?_
  refine aw_iload_n (i := 2) C (dec D_Dir_cut rfl) rfl rfl ?_
  refine aw_iload_n (i := 3) C (dec D_Dir_cut rfl) rfl rfl ?_
  refine aw_icmp_ge (tgt := 19) C (dec D_Dir_cut rfl) (by decide) (fun h7 => ?_) (fun h7 => ?_)
  · have h7k : k0 = pg n := by have := (nI_leI (a := pg n) (b := k0) (by omega) (by omega)).mp h7; omega
    have e9k : nI (k k0) = 0 := by rw [h7k, hk4]; rfl
    refine aw_iconst (v := 0) C (dec D_Dir_cut rfl) (by decide) ?_
    refine aw_istore C (dec D_Dir_cut rfl) (by decide) ?_
    refine aw_iload_n (i := 2) C (dec D_Dir_cut rfl) rfl rfl ?_
    refine aw_if_le (tgt := 45) C (dec D_Dir_cut rfl) (by decide) (fun h23 => ?_) (fun h23 => ?_)
    · have e23 : k0 = 0 := by have := (nI_leI (a := k0) (b := 0) (by omega) (by omega)).mp h23; omega
      refine aw_iload_n (i := 2) C (dec D_Dir_cut rfl) rfl rfl ?_
      refine aw_if_ne (tgt := 54) C (dec D_Dir_cut rfl) (by decide) (fun h46 => ?_) (fun h46 => ?_)
      · have e0 : ¬ k0 = 0 := fun z => h46 (by rw [z]; rfl)
        refine aw_iload_n (i := 2) C (dec D_Dir_cut rfl) rfl rfl ?_
        refine aw_istore C (dec D_Dir_cut rfl) (by decide) ?_
        have k9 := lp (pg n + 1) 0 (by omega) (by omega)
        rw [cCutN, cCut0, if_neg e0, cCut1, if_neg (by omega)] at k9
        refine AW.ls [(0, .ref (a 3 0)), (1, .ref (a 17 j)), (2, .int (nI k0)), (3, .int (nI (pg n))), (4, .int (nI (k (k0 + 0)))), (5, .int (nI (k0 + 0)))] (by rw [Nat.add_zero]; rw [e9k]; rfl) ?_
        exact AW.impure k9
      · have e0 : k0 = 0 := (nI_eq (a := k0) (b := 0) (by omega) (by omega)).mp h46
        refine aw_aload_n (i := 1) C (dec D_Dir_cut rfl) rfl rfl ?_
        refine aw_iconst (v := 0) C (dec D_Dir_cut rfl) (by decide) ?_
        refine pf_Dir_32 C Fw (by exact hj) (dec D_Dir_cut rfl) ?_
        refine aw_iload_n (i := 2) C (dec D_Dir_cut rfl) rfl rfl ?_
        refine aw_istore C (dec D_Dir_cut rfl) (by decide) ?_
        have k9 := lp (pg n + 1) 0 (by omega) (by omega)
        rw [cCutN, cCut0, if_pos e0, cCut1, if_neg (by omega)] at k9
        refine AW.ls [(0, .ref (a 3 0)), (1, .ref (a 17 j)), (2, .int (nI k0)), (3, .int (nI (pg n))), (4, .int (nI (k (k0 + 0)))), (5, .int (nI (k0 + 0)))] (by rw [Nat.add_zero]; rw [e9k]; rfl) ?_
        exact AW.impure k9
    · have e23 : 0 < k0 := by have := mt (nI_leI (a := k0) (b := 0) (by omega) (by omega)).mpr h23; omega
      refine aw_iload_n (i := 2) C (dec D_Dir_cut rfl) rfl rfl ?_
      refine aw_iload_n (i := 3) C (dec D_Dir_cut rfl) rfl rfl ?_
      refine aw_icmp_ge (tgt := 45) C (dec D_Dir_cut rfl) (by decide) (fun h28 => ?_) (fun h28 => ?_)
      · refine aw_iload_n (i := 2) C (dec D_Dir_cut rfl) rfl rfl ?_
        refine aw_if_ne (tgt := 54) C (dec D_Dir_cut rfl) (by decide) (fun h46 => ?_) (fun h46 => ?_)
        · have e0 : ¬ k0 = 0 := fun z => h46 (by rw [z]; rfl)
          refine aw_iload_n (i := 2) C (dec D_Dir_cut rfl) rfl rfl ?_
          refine aw_istore C (dec D_Dir_cut rfl) (by decide) ?_
          have k9 := lp (pg n + 1) 0 (by omega) (by omega)
          rw [cCutN, cCut0, if_neg e0, cCut1, if_neg (by omega)] at k9
          refine AW.ls [(0, .ref (a 3 0)), (1, .ref (a 17 j)), (2, .int (nI k0)), (3, .int (nI (pg n))), (4, .int (nI (k (k0 + 0)))), (5, .int (nI (k0 + 0)))] (by rw [Nat.add_zero]; rw [e9k]; rfl) ?_
          exact AW.impure k9
        · have e0 : k0 = 0 := (nI_eq (a := k0) (b := 0) (by omega) (by omega)).mp h46
          refine aw_aload_n (i := 1) C (dec D_Dir_cut rfl) rfl rfl ?_
          refine aw_iconst (v := 0) C (dec D_Dir_cut rfl) (by decide) ?_
          refine pf_Dir_32 C Fw (by exact hj) (dec D_Dir_cut rfl) ?_
          refine aw_iload_n (i := 2) C (dec D_Dir_cut rfl) rfl rfl ?_
          refine aw_istore C (dec D_Dir_cut rfl) (by decide) ?_
          have k9 := lp (pg n + 1) 0 (by omega) (by omega)
          rw [cCutN, cCut0, if_pos e0, cCut1, if_neg (by omega)] at k9
          refine AW.ls [(0, .ref (a 3 0)), (1, .ref (a 17 j)), (2, .int (nI k0)), (3, .int (nI (pg n))), (4, .int (nI (k (k0 + 0)))), (5, .int (nI (k0 + 0)))] (by rw [Nat.add_zero]; rw [e9k]; rfl) ?_
          exact AW.impure k9
      · exact absurd (nI_le (by omega) (by omega)) h28
  · have h7k : k0 < pg n := by have := mt (nI_leI (a := pg n) (b := k0) (by omega) (by omega)).mpr h7; omega
    refine aw_aload_n (i := 0) C (dec D_Dir_cut rfl) rfl rfl ?_
    refine aw_aload_n (i := 1) C (dec D_Dir_cut rfl) rfl rfl ?_
    refine aw_iload_n (i := 2) C (dec D_Dir_cut rfl) rfl rfl ?_
    refine aw_cv C ci_Dir_40 [_, _] (c_Dir_pageOf _ _ _ _ _ _ j k0 k hj (by omega) (h0 (by omega)) (fun t ht => ⟨hk t (by omega), hk2 t (by omega)⟩)) (dec D_Dir_cut rfl) rcD rfl fpP (Nat.le_of_ble_eq_true rfl) (by decide) ⟨by decide, by decide⟩ (fun v w2 hp => ?_) (fun _ _ h => by cases h.1)
    obtain ⟨hv, rfl⟩ := hp
    cases hv
    refine aw_goto (tgt := 20) C (dec D_Dir_cut rfl) (by decide) ?_
    refine aw_istore C (dec D_Dir_cut rfl) (by decide) ?_
    refine aw_iload_n (i := 2) C (dec D_Dir_cut rfl) rfl rfl ?_
    refine aw_if_le (tgt := 45) C (dec D_Dir_cut rfl) (by decide) (fun h23 => ?_) (fun h23 => ?_)
    · have e23 : k0 = 0 := by have := (nI_leI (a := k0) (b := 0) (by omega) (by omega)).mp h23; omega
      refine aw_iload_n (i := 2) C (dec D_Dir_cut rfl) rfl rfl ?_
      refine aw_if_ne (tgt := 54) C (dec D_Dir_cut rfl) (by decide) (fun h46 => ?_) (fun h46 => ?_)
      · have e0 : ¬ k0 = 0 := fun z => h46 (by rw [z]; rfl)
        refine aw_iload_n (i := 2) C (dec D_Dir_cut rfl) rfl rfl ?_
        refine aw_istore C (dec D_Dir_cut rfl) (by decide) ?_
        have k9 := lp (pg n + 1) 0 (by omega) (by omega)
        rw [cCutN, cCut0, if_neg e0, cCut1, if_neg (by omega)] at k9
        refine AW.ls [(0, .ref (a 3 0)), (1, .ref (a 17 j)), (2, .int (nI k0)), (3, .int (nI (pg n))), (4, .int (nI (k (k0 + 0)))), (5, .int (nI (k0 + 0)))] (by rw [Nat.add_zero]; rfl) ?_
        exact AW.impure k9
      · have e0 : k0 = 0 := (nI_eq (a := k0) (b := 0) (by omega) (by omega)).mp h46
        refine aw_aload_n (i := 1) C (dec D_Dir_cut rfl) rfl rfl ?_
        refine aw_iconst (v := 0) C (dec D_Dir_cut rfl) (by decide) ?_
        refine pf_Dir_32 C Fw (by exact hj) (dec D_Dir_cut rfl) ?_
        refine aw_iload_n (i := 2) C (dec D_Dir_cut rfl) rfl rfl ?_
        refine aw_istore C (dec D_Dir_cut rfl) (by decide) ?_
        have k9 := lp (pg n + 1) 0 (by omega) (by omega)
        rw [cCutN, cCut0, if_pos e0, cCut1, if_neg (by omega)] at k9
        refine AW.ls [(0, .ref (a 3 0)), (1, .ref (a 17 j)), (2, .int (nI k0)), (3, .int (nI (pg n))), (4, .int (nI (k (k0 + 0)))), (5, .int (nI (k0 + 0)))] (by rw [Nat.add_zero]; rfl) ?_
        exact AW.impure k9
    · have e23 : 0 < k0 := by have := mt (nI_leI (a := k0) (b := 0) (by omega) (by omega)).mpr h23; omega
      refine aw_iload_n (i := 2) C (dec D_Dir_cut rfl) rfl rfl ?_
      refine aw_iload_n (i := 3) C (dec D_Dir_cut rfl) rfl rfl ?_
      refine aw_icmp_ge (tgt := 45) C (dec D_Dir_cut rfl) (by decide) (fun h28 => ?_) (fun h28 => ?_)
      · exact absurd h28 (nI_ge h7k (by omega))
      · refine aw_aload_n (i := 0) C (dec D_Dir_cut rfl) rfl rfl ?_
        refine gf_Dir_17 C (dec D_Dir_cut rfl) ?_
        refine aw_aload_n (i := 0) C (dec D_Dir_cut rfl) rfl rfl ?_
        refine aw_aload_n (i := 1) C (dec D_Dir_cut rfl) rfl rfl ?_
        refine aw_iload_n (i := 2) C (dec D_Dir_cut rfl) rfl rfl ?_
        refine aw_iconst (v := 1) C (dec D_Dir_cut rfl) (by decide) ?_
        refine aw_isub C (dec D_Dir_cut rfl) ?_
        rw [show (1 : Int32) = nI 1 from rfl, pk_sub (by omega)]
        refine aw_cv C ci_Dir_40 [_, _] (c_Dir_pageOf _ _ _ _ _ _ j (k0 - 1) k hj (by omega) (h0 (by omega)) (fun t ht => ⟨hk t (by omega), hk2 t (by omega)⟩)) (dec D_Dir_cut rfl) rcD rfl fpP (Nat.le_of_ble_eq_true rfl) (by decide) ⟨by decide, by decide⟩ (fun v w2 hp => ?_) (fun _ _ h => by cases h.1)
        obtain ⟨hv, rfl⟩ := hp
        cases hv
        refine aw_iconst (v := 0) C (dec D_Dir_cut rfl) (by decide) ?_
        refine as_C7 C Fw (k (k0 - 1)) (dec D_Dir_cut rfl) (ix_of (hk _ (by omega))) ?_
        refine aw_iload_n (i := 2) C (dec D_Dir_cut rfl) rfl rfl ?_
        refine aw_if_ne (tgt := 54) C (dec D_Dir_cut rfl) (by decide) (fun h46 => ?_) (fun h46 => ?_)
        · have e0 : ¬ k0 = 0 := fun z => h46 (by rw [z]; rfl)
          refine aw_iload_n (i := 2) C (dec D_Dir_cut rfl) rfl rfl ?_
          refine aw_istore C (dec D_Dir_cut rfl) (by decide) ?_
          have k9 := lp (pg n + 1) 0 (by omega) (by omega)
          rw [cCutN, cCut0, if_neg e0, cCut1, if_pos ⟨by omega, by omega⟩] at k9
          refine AW.ls [(0, .ref (a 3 0)), (1, .ref (a 17 j)), (2, .int (nI k0)), (3, .int (nI (pg n))), (4, .int (nI (k (k0 + 0)))), (5, .int (nI (k0 + 0)))] (by rw [Nat.add_zero]; rfl) ?_
          exact AW.impure k9
        · exact absurd ((nI_eq (a := k0) (b := 0) (by omega) (by omega)).mp h46) (by omega)
