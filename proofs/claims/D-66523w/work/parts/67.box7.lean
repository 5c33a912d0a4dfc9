/-! the box: create; printed by tools/m67.py -/
theorem c_Box_create1 (l : Launch) (G : GG) (a : AD) (c : CC) (m : MM) (o : OO) (x : Int32) (fo : Nat → Option Nat) (s : Nat) (hm : ¬ cMtd c = 0) (hF9 : FOk c fo) (hx : ¬ x = 0) (hnum : cNum c fo x < 0) (hs : s < 8) (hfree : fo s = none) (hfull : ∀ t, t < s → ∃ j, fo t = some j) (hel : ∀ i j z, cR c 6 i j = some z → z < cN c 17 0) : CT l G y_Box_create (.code y_Box_create b_Box_create 3 (some .int)) 3 2 7 (Fyes G) (wld G a c m o) [.ref (a 0 0), .int x] (fun r w2 => ∃ q1 q2, r = .inl (some (.int (nI s))) ∧ w2 = wld G (up2 (up2 a 17 (cN c 17 0) q1) 18 (cN c 17 0) q2) (sR (newF c x) 6 0 (rup (cR c 6 0) s (some (cN c 17 0)))) m o) := by
  refine CT.of (by decide) (Nat.le_of_ble_eq_true rfl) rfl ?_
  intro E hl hG hF C r hw hex hnm
  subst hl; subst hG
  have Fw : Cw E := fun a h => by rw [hF]; exact h
  have lp : ∀ (n t : Nat) , 8 - t < n → t ≤ 8 → t ≤ s → AW E true 0 0 (wld (eG E) a c m o) 29 [(0, .ref (a 0 0)), (1, .int x), (2, .int (nI t))] [] := by
    intro n
    induction n with
    | zero => intro t  h1 h2 hts; omega
    | succ n ih =>
      intro t  h1t h2t hts
      refine aw_iload_n (i := 2) C (dec D_Box_create rfl) rfl rfl ?_
      refine aw_bipush (v := 8) C (dec D_Box_create rfl) (by decide) ?_
      refine aw_icmp_ge (tgt := 53) C (dec D_Box_create rfl) (by decide) (fun hb => ?_) (fun hb => ?_)
      · try simp only [mI_I, mL_I, mA_I, mJ_I, mI_L, mL_L, mA_L, mJ_L, mI_A, mL_A, mA_A, mJ_A, mI_J, mL_J, mA_J, mJ_J, cI_I, cL_I, cA_I, cJ_I, cR_I, cN_I, cI_L, cL_L, cA_L, cJ_L, cR_L, cN_L, cI_A, cL_A, cA_A, cJ_A, cR_A, cN_A, cI_J, cL_J, cA_J, cJ_J, cR_J, cN_J, cI_R, cL_R, cA_R, cJ_R, cR_R, cN_R, cI_N, cL_N, cA_N, cJ_N, cR_N, cN_N, ↓reduceIte, Nat.reduceEqDiff, upd_at, updL_at] at hb
        have e9 : t = 8 := by have := ix_ge (N := 8) hb; omega
        subst e9
        exact absurd hts (by omega)
      · try simp only [mI_I, mL_I, mA_I, mJ_I, mI_L, mL_L, mA_L, mJ_L, mI_A, mL_A, mA_A, mJ_A, mI_J, mL_J, mA_J, mJ_J, cI_I, cL_I, cA_I, cJ_I, cR_I, cN_I, cI_L, cL_L, cA_L, cJ_L, cR_L, cN_L, cI_A, cL_A, cA_A, cJ_A, cR_A, cN_A, cI_J, cL_J, cA_J, cJ_J, cR_J, cN_J, cI_R, cL_R, cA_R, cJ_R, cR_R, cN_R, cI_N, cL_N, cA_N, cJ_N, cR_N, cN_N, ↓reduceIte, Nat.reduceEqDiff, upd_at, updL_at] at hb
        have htt : t < 8 := ix_lt (N := 8) hb
        have hf := hF9 t (by omega)
        refine aw_aload_n (i := 0) C (dec D_Box_create rfl) rfl rfl ?_
        refine gf_Box_34 C (dec D_Box_create rfl) ?_
        refine gf_Box_74 C (dec D_Box_create rfl) ?_
        refine aw_iload_n (i := 2) C (dec D_Box_create rfl) rfl rfl ?_
        refine al_C6 C t (dec D_Box_create rfl) (ix_of (by omega)) ?_
        rw [hf.1]
        by_cases ets : t = s
        · subst ets
          rw [hfree]
          refine aw_ifnullN (tgt := 53) C (dec D_Box_create rfl) (by decide) ?_
          refine aw_iload_n (i := 2) C (dec D_Box_create rfl) rfl rfl ?_
          refine aw_bipush (v := 8) C (dec D_Box_create rfl) (by decide) ?_
          refine aw_icmp_ne (tgt := 67) C (dec D_Box_create rfl) (by decide) (fun _ => ?_) (fun h => absurd ((nI_eq (a := t) (b := 8) (by omega) (by omega)).mp h) (by omega))
          refine aw_aload_n (i := 0) C (dec D_Box_create rfl) rfl rfl ?_
          refine gf_Box_34 C (dec D_Box_create rfl) ?_
          refine gf_Box_74 C (dec D_Box_create rfl) ?_
          refine aw_iload_n (i := 2) C (dec D_Box_create rfl) rfl rfl ?_
          refine aw_new C 17 (cN c 17 0) [.int 0, .int 0, .int 0, .null] cl_File (List.mem_of_getElem? (i := 554) (by decide +kernel)) (List.mem_of_getElem? (i := 374) (by decide +kernel)) (List.mem_of_getElem? (i := 55) (by decide +kernel)) (by decide) (dec D_Box_create rfl) ⟨by decide, by decide⟩ (fun q1 => ?_)
          refine aw_dup C (dec D_Box_create rfl) rfl ?_
          refine aw_iload_n (i := 1) C (dec D_Box_create rfl) rfl rfl ?_
          refine aw_ci C ci_Box_151 [_] (c_File_init _ _ _ (cN c 17 0) q1 x) (dec D_Box_create rfl) rfl (fpW Fw) (Nat.le_of_ble_eq_true rfl) (by decide) ⟨by decide, by decide⟩ (fun v w2 hp => ?_) (fun _ _ h => by obtain ⟨_, h, _⟩ := h; cases h)
          obtain ⟨q2, hv, rfl⟩ := hp
          cases hv
          rw [w_newF hel]
          have e17 : q1 = up2 (up2 a 17 (cN c 17 0) q1) 18 (cN c 17 0) q2 17 (cN c 17 0) := by simp [up2]
          refine AW.eq rfl rfl (st' := [.ref (up2 (up2 a 17 (cN c 17 0) q1) 18 (cN c 17 0) q2 17 (cN c 17 0)), .int (nI t), .ref (up2 (up2 a 17 (cN c 17 0) q1) 18 (cN c 17 0) q2 6 0)]) (by simp [up2]) ?_
          refine as_C6 (a := up2 (up2 a 17 (cN c 17 0) q1) 18 (cN c 17 0) q2) (c := newF c x) (j := (cN c 17 0)) C Fw (Nat.lt_succ_self _) t (dec D_Box_create rfl) (ix_of hs) ?_
          refine aw_iload_n (i := 2) C (dec D_Box_create rfl) rfl rfl ?_
          refine aw_ret_i C r (dec D_Box_create rfl) rfl (by decide) (by decide) ?_
          exact ⟨q1, q2, rfl, rfl⟩
        · obtain ⟨j, hj⟩ := hfull t (by omega)
          rw [hj]
          refine aw_ifnull C (dec D_Box_create rfl) ?_
          refine aw_iinc C (dec D_Box_create rfl) rfl (nI_inc t) (by decide) ?_
          refine aw_goto (tgt := 29) C (dec D_Box_create rfl) (by decide) ?_
          exact ih (t + 1) (by omega) (by omega) (by omega)
  refine aw_aload_n (i := 0) C (dec D_Box_create rfl) rfl rfl ?_
  refine aw_cv C ci_Box_62 [] (c_Box_isMounted _ _ _ _ _ _) (dec D_Box_create rfl) rcB rfl fpP (Nat.le_of_ble_eq_true rfl) (by decide) ⟨by decide, by decide⟩ (fun v w2 hp => ?_) (fun _ _ h => by cases h.1)
  obtain ⟨hv, rfl⟩ := hp
  cases hv
  refine aw_cs C ci_Box_66 [_] (c_Box_want1 _ _ _ _ _ _ _ hm) (dec D_Box_create rfl) rfl fpP (Nat.le_of_ble_eq_true rfl) (by decide) ⟨by decide, by decide⟩ (fun v w2 hp => ?_) (fun _ _ h => by cases h.1)
  obtain ⟨hv, rfl⟩ := hp
  cases hv
  refine aw_iload_n (i := 1) C (dec D_Box_create rfl) rfl rfl ?_
  refine aw_if_eq (tgt := 23) C (dec D_Box_create rfl) (by decide) (fun h8 => ?_) (fun h8 => ?_)
  · exact absurd h8 hx
  · refine aw_aload_n (i := 0) C (dec D_Box_create rfl) rfl rfl ?_
    refine aw_iload_n (i := 1) C (dec D_Box_create rfl) rfl rfl ?_
    refine aw_cv C ci_Box_144 [_] (c_Box_numberOf _ _ _ _ _ _ _ fo hF9) (dec D_Box_create rfl) rcB rfl fpP (Nat.le_of_ble_eq_true rfl) (by decide) ⟨by decide, by decide⟩ (fun v w2 hp => ?_) (fun _ _ h => by cases h.1)
    obtain ⟨hv, rfl⟩ := hp
    cases hv
    refine aw_if_ge (tgt := 23) C (dec D_Box_create rfl) (by decide) (fun h16 => ?_) (fun h16 => ?_)
    · exact absurd hnum (i_ge0 h16)
    · refine aw_iconst (v := 1) C (dec D_Box_create rfl) (by decide) ?_
      refine aw_goto (tgt := 24) C (dec D_Box_create rfl) (by decide) ?_
      refine aw_cs C ci_Box_78 [_] (c_Box_argue1 _ _ _ _ _ _ _ (show ¬ (1 : Int32) = 0 by decide)) (dec D_Box_create rfl) rfl fpP (Nat.le_of_ble_eq_true rfl) (by decide) ⟨by decide, by decide⟩ (fun v w2 hp => ?_) (fun _ _ h => by cases h.1)
      obtain ⟨hv, rfl⟩ := hp
      cases hv
      refine aw_iconst (v := 0) C (dec D_Box_create rfl) (by decide) ?_
      refine aw_istore_n (i := 2) C (dec D_Box_create rfl) rfl (by decide) ?_
      exact lp 9 0 (by omega) (by omega) (by omega)
