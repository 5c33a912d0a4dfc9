/-! the model: serve; printed by tools/m30.py -/
def dl_Mod_serve_1 : List (Nat × Instr × Nat) := [(151, .iload 4, 2), (153, .baload, 1), (154, .ifCond .ne 24, 3), (157, .aload_n 0, 1), (158, .getfield 65, 3), (161, .iload 4, 2), (163, .aload_n 0, 1), (164, .aload_n 0, 1), (165, .getfield 53, 3), (168, .iload 4, 2), (170, .iaload, 1), (171, .invokevirtual 169, 3), (174, .lastore, 1), (175, .goto 35, 3), (178, .aload_n 0, 1), (179, .aload_n 0, 1), (180, .getfield 53, 3), (183, .iload 4, 2), (185, .iaload, 1), (186, .invokevirtual 173, 3), (189, .ifCond .eq 21, 3), (192, .aload_n 0, 1), (193, .aload_n 0, 1), (194, .getfield 53, 3), (197, .iload 4, 2), (199, .iaload, 1), (200, .aload_n 0, 1), (201, .getfield 59, 3), (204, .iload 4, 2), (206, .laload, 1), (207, .invokevirtual 139, 3), (210, .iinc 3 1, 3), (213, .goto (-160), 3), (216, .aload_n 0, 1), (217, .aload_n 0, 1), (218, .getfield 21, 3), (221, .ifCond .eq 7, 3), (224, .iconst 0, 1), (225, .goto 4, 3), (228, .iconst 1, 1), (229, .putfield 71, 3), (232, .aload_n 0, 1), (233, .getfield 71, 3), (236, .ifCond .le 5, 3), (239, .iconst 0, 1), (240, .ireturn, 1), (241, .aload_n 0, 1), (242, .aload_n 0, 1), (243, .getfield 102, 3), (246, .putfield 105, 3), (249, .aload_n 0, 1), (250, .iconst 0, 1), (251, .putfield 102, 3), (254, .aload_n 0, 1), (255, .getfield 80, 3), (258, .lload_n 1, 1), (259, .lsub, 1), (260, .l2i, 1), (261, .ireturn, 1)]
theorem D_Mod_serve_1 : ∀ q ∈ dl_Mod_serve_1, decode b_Mod_serve q.1 = .ok q.2 := by decide +kernel
def mDone0 (m : MM) : Nat → MM
  | 0 => m
  | t + 1 => mS (mDone0 m t) 15 t 0
/-- the best of the first k requests; -1 while there is none -/
def mBestN (m : MM) : Nat → Int32
  | 0 => -1
  | k + 1 => if mA m 15 k = 0 then (if mBestN m k < 0 then nI k else if mStepsTo m (mA m 12 (mBestN m k).toNatClampNeg) ≤ mStepsTo m (mA m 12 k) then mBestN m k else nI k) else mBestN m k
def mBest (m : MM) (q : Nat) : Nat := (mBestN m q).toNatClampNeg
def mSrv0 (m : MM) (j : Nat) : MM := mSJ (mS m 15 j 1) 16 j 0
def mSrv1 (m : MM) (L : Nat → Nat) (j p : Nat) : MM :=
  if mA m 13 j = 0 then mSJ (mRead (mSrv0 m j) p) 16 j (mReadR (mSrv0 m j) p)
  else if mFree (mSrv0 m j) L p = true then mWrite (mSrv0 m j) p (mJ (mSrv0 m j) 14 j) else mSrv0 m j
/-- the pages that are asked for are ap -/
def MAsk (m : MM) (q : Nat) (ap : Nat → Nat) : Prop := ∀ k, k < q → mA m 12 k = nI (ap k) ∧ ap k < 101
def mSrvN (m : MM) (L : Nat → Nat) (q : Nat) (ap : Nat → Nat) : Nat → MM
  | 0 => m
  | t + 1 => mSrv1 (mSrvN m L q ap t) L (mBest (mSrvN m L q ap t) q) (ap (mBest (mSrvN m L q ap t) q))
def mServe1 (m : MM) (L : Nat → Nat) (q : Nat) (ap : Nat → Nat) : MM := mSrvN (mDone0 (smI m 0 0) 16) L q ap q
def mServe (m : MM) (L : Nat → Nat) (q : Nat) (ap : Nat → Nat) : MM :=
  if mReady m = 0 then smI m 0 1 else if mI (mServe1 m L q ap) 4 = 0 then smI (mServe1 m L q ap) 0 1 else smI (smI (smI (mServe1 m L q ap) 0 0) 9 (mI (mServe1 m L q ap) 8)) 8 0
def mServeR (m : MM) (L : Nat → Nat) (q : Nat) (ap : Nat → Nat) : Int32 :=
  if mReady m = 0 then 0 else if mI (mServe1 m L q ap) 4 = 0 then 0 else (mL (mServe1 m L q ap) 0 - mL m 0).toInt32
theorem mBestN_or (m : MM) : ∀ k, k ≤ 16 → (mBestN m k = -1 ∧ ∀ j, j < k → ¬ mA m 15 j = 0) ∨ ∃ j, j < k ∧ mBestN m k = nI j ∧ mA m 15 j = 0
  | 0, _ => .inl ⟨rfl, fun j h => absurd h (Nat.not_lt_zero j)⟩
  | k + 1, hk => by
    have ih := mBestN_or m k (by omega)
    rw [mBestN]
    by_cases h : mA m 15 k = 0
    · rw [if_pos h]
      rcases ih with ⟨e, _⟩ | ⟨j, hj, e, hd⟩
      · rw [e, if_pos (by decide)]; exact .inr ⟨k, by omega, rfl, h⟩
      · rw [e, if_neg (nI_pos (by omega))]
        split
        · exact .inr ⟨j, by omega, rfl, hd⟩
        · exact .inr ⟨k, by omega, rfl, h⟩
    · rw [if_neg h]
      rcases ih with ⟨e, ha⟩ | ⟨j, hj, e, hd⟩
      · refine .inl ⟨e, fun j hj => ?_⟩
        by_cases e1 : j = k
        · subst e1; exact h
        · exact ha j (by omega)
      · exact .inr ⟨j, by omega, e, hd⟩
/-- so many of the first q are not done -/
def cN0 (g : Nat → Int32) : Nat → Nat
  | 0 => 0
  | k + 1 => cN0 g k + if g k = 0 then 1 else 0
theorem cN0_ex (g : Nat → Int32) : ∀ q, 0 < cN0 g q → ∃ j, j < q ∧ g j = 0
  | 0, h => absurd h (Nat.not_lt_zero _)
  | k + 1, h => by
    by_cases e : g k = 0
    · exact ⟨k, by omega, e⟩
    · rw [cN0, if_neg e, Nat.add_zero] at h
      obtain ⟨j, hj, z⟩ := cN0_ex g k h
      exact ⟨j, by omega, z⟩
theorem cN0_same (g g' : Nat → Int32) : ∀ q, (∀ j, j < q → g' j = g j) → cN0 g' q = cN0 g q
  | 0, _ => rfl
  | k + 1, h => by rw [cN0, cN0, h k (by omega), cN0_same g g' k (fun j hj => h j (by omega))]
theorem cN0_upd (g : Nat → Int32) {j : Nat} (hj0 : g j = 0) : ∀ q, j < q → cN0 (upd g j 1) q + 1 = cN0 g q
  | 0, h => absurd h (Nat.not_lt_zero _)
  | k + 1, h => by
    rw [cN0, cN0]
    by_cases e : j = k
    · subst e
      rw [upd_at, if_pos rfl, if_neg (by decide), hj0, if_pos rfl, cN0_same g (upd g j 1) j (fun i hi => by rw [upd_at, if_neg (by omega)])]
    · have ih := cN0_upd g hj0 k (by omega)
      have eu : upd g j 1 k = g k := by rw [upd_at, if_neg (fun z => e z.symm)]
      rw [eu]; omega
theorem cN0_all (g : Nat → Int32) : ∀ q, (∀ j, j < q → g j = 0) → cN0 g q = q
  | 0, _ => rfl
  | k + 1, h => by rw [cN0, if_pos (h k (by omega)), cN0_all g k (fun j hj => h j (by omega))]
theorem mDone0_I (m : MM) : ∀ t, mI (mDone0 m t) = mI m
  | 0 => rfl
  | t + 1 => by rw [mDone0, mS, mI_A]; exact mDone0_I m t
theorem mDone0_L (m : MM) : ∀ t, mL (mDone0 m t) = mL m
  | 0 => rfl
  | t + 1 => by rw [mDone0, mS, mL_A]; exact mDone0_L m t
theorem mDone0_A (m : MM) {j : Nat} (h : j ≠ 15) : ∀ t, mA (mDone0 m t) j = mA m j
  | 0 => rfl
  | t + 1 => by rw [mDone0, mS, mA_A, if_neg h]; exact mDone0_A m h t
theorem mDone0_at (m : MM) {f : Nat} : ∀ t, f < t → mA (mDone0 m t) 15 f = 0
  | 0, h => absurd h (Nat.not_lt_zero _)
  | t + 1, h => by
    rw [mDone0, mS, mA_A, if_pos rfl, upd_at]
    split
    · rfl
    · exact mDone0_at m t (by omega)
theorem mSrv1_A (m : MM) (L : Nat → Nat) (j p : Nat) : mA (mSrv1 m L j p) = mA (mS m 15 j 1) := by
  unfold mSrv1; split
  · rw [mSJ, mA_J, mRead_A]; rfl
  · split
    · rw [mWrite_A]; rfl
    · rfl
theorem mSrv1_I (m : MM) (L : Nat → Nat) (j p : Nat) {k : Nat} (h2 : k ≠ 2) (h3 : k ≠ 3) (h4 : k ≠ 4) : mI (mSrv1 m L j p) k = mI m k := by
  unfold mSrv1; split
  · rw [mSJ, mI_J, mRead_I _ _ h2 h3 h4]; rfl
  · split
    · rw [mWrite_I _ _ _ h2 h3 h4]; rfl
    · rfl
theorem mSrvN_A (m : MM) (L : Nat → Nat) (q : Nat) (ap : Nat → Nat) {j : Nat} (h : j ≠ 15) : ∀ t, mA (mSrvN m L q ap t) j = mA m j
  | 0 => rfl
  | t + 1 => by rw [mSrvN, mSrv1_A, mS, mA_A, if_neg h]; exact mSrvN_A m L q ap h t
theorem mSrvN_I (m : MM) (L : Nat → Nat) (q : Nat) (ap : Nat → Nat) {k : Nat} (h2 : k ≠ 2) (h3 : k ≠ 3) (h4 : k ≠ 4) : ∀ t, mI (mSrvN m L q ap t) k = mI m k
  | 0 => rfl
  | t + 1 => by rw [mSrvN, mSrv1_I _ _ _ _ h2 h3 h4]; exact mSrvN_I m L q ap h2 h3 h4 t
/-- while requests are left there is a best one -/
theorem mSrvN_best {m : MM} {L : Nat → Nat} {q : Nat} {ap : Nat → Nat} (hq : q ≤ 16) (h0 : ∀ j, j < q → mA m 15 j = 0) : ∀ t, t ≤ q → cN0 (mA (mSrvN m L q ap t) 15) q = q - t ∧ (t < q → mBest (mSrvN m L q ap t) q < q ∧ mBestN (mSrvN m L q ap t) q = nI (mBest (mSrvN m L q ap t) q) ∧ mA (mSrvN m L q ap t) 15 (mBest (mSrvN m L q ap t) q) = 0) := by
  have hb : ∀ m' : MM, 0 < cN0 (mA m' 15) q → mBest m' q < q ∧ mBestN m' q = nI (mBest m' q) ∧ mA m' 15 (mBest m' q) = 0 := by
    intro m' h
    obtain ⟨i, hi, e⟩ := cN0_ex _ _ h
    rcases mBestN_or m' q hq with ⟨_, ha⟩ | ⟨j, hj, ej, hd⟩
    · exact absurd e (ha i hi)
    · have e2 : mBest m' q = j := by rw [mBest, ej, nI_clamp (by omega)]
      rw [e2]; exact ⟨hj, ej, hd⟩
  intro t
  induction t with
  | zero =>
    intro _
    have e := cN0_all (mA m 15) q h0
    exact ⟨by rw [mSrvN, e]; omega, fun h => hb _ (by rw [mSrvN, e]; exact h)⟩
  | succ t ih =>
    intro ht
    have ih := ih (by omega)
    have h2 := ih.2 (by omega)
    have e : cN0 (mA (mSrvN m L q ap (t + 1)) 15) q = q - (t + 1) := by
      have z := cN0_upd (mA (mSrvN m L q ap t) 15) h2.2.2 q h2.1
      rw [mSrvN, mSrv1_A, mS, mA_A, if_pos rfl]
      rw [ih.1] at z; omega
    exact ⟨e, fun h => hb _ (by rw [e]; omega)⟩
theorem c_Mod_serve (l : Launch) (G : GG) (a : AD) (c : CC) (m : MM) (o : OO) (L : Nat → Nat) (q : Nat) (ap : Nat → Nat) (hL : MLn m L) (hq : mI m 8 = nI q ∧ q ≤ 16) (hA : MAsk m q ap) : CT l G y_Mod_serve (.code y_Mod_serve b_Mod_serve 6 (some .int)) 4 0 0 (Fyes G) (wld G a c m o) [.ref (a 30 0)] (fun r w2 => r = .inl (some (.int (mServeR m L q ap))) ∧ w2 = wld G a c (mServe m L q ap) o) := by
  refine CT.of (by decide) (Nat.le_of_ble_eq_true rfl) rfl ?_
  intro E hl hG hF C r hw hex hnm
  subst hl; subst hG
  have Fw : Cw E := fun a h => by rw [hF]; exact h
  have hrd : ∀ (m1 : MM) (t j : Nat), MLn m1 L → mI m1 8 = nI q → (∀ k, k < q → mA m1 12 k = nI (ap k) ∧ ap k < 101) → mBestN m1 q = nI j → j < q → (AW E false 0 0 (wld (eG E) a c (mSrv1 m1 L j (ap j)) o) 53 [(0, .ref (a 30 0)), (1, .long (mL m 0)), (3, .int (nI (t + 1)))] []) → AW E false 0 0 (wld (eG E) a c m1 o) 61 [(0, .ref (a 30 0)), (1, .long (mL m 0)), (3, .int (nI t))] [] := by
    intro m1 t j hL1 h8 hA1 hbj hj kz
    have hq16 := hq.2
    have lpk : ∀ (nk k : Nat) (y : Int32), q - k < nk → k ≤ q → y = mBestN m1 k → AW E false 0 0 (wld (eG E) a c m1 o) 67 [(0, .ref (a 30 0)), (1, .long (mL m 0)), (3, .int (nI t)), (4, .int y), (5, .int (nI k))] [] := by
      intro nk
      induction nk with
      | zero => intro k y h1 h2 hx; omega
      | succ nk ihk =>
        intro k y h1k h2k hx
        refine aw_iload C (dec D_Mod_serve rfl) rfl ?_
        refine aw_aload_n (i := 0) C (dec D_Mod_serve rfl) rfl rfl ?_
        refine gf_Mod_102 C (dec D_Mod_serve rfl) ?_
        rw [h8]
        refine aw_icmp_ge (tgt := 131) C (dec D_Mod_serve rfl) (by decide) (fun hbk => ?_) (fun hbk => ?_)
        · try simp only [mI_I, mL_I, mA_I, mJ_I, mI_L, mL_L, mA_L, mJ_L, mI_A, mL_A, mA_A, mJ_A, mI_J, mL_J, mA_J, mJ_J, cI_I, cL_I, cA_I, cJ_I, cR_I, cN_I, cI_L, cL_L, cA_L, cJ_L, cR_L, cN_L, cI_A, cL_A, cA_A, cJ_A, cR_A, cN_A, cI_J, cL_J, cA_J, cJ_J, cR_J, cN_J, cI_R, cL_R, cA_R, cJ_R, cR_R, cN_R, cI_N, cL_N, cA_N, cJ_N, cR_N, cN_N, ↓reduceIte, Nat.reduceEqDiff, upd_at, updL_at] at hbk
          have e9 : k = q := by have := ix_ge (N := q) hbk; omega
          subst e9
          obtain rfl : y = nI j := by rw [hx, hbj]
          refine AW.ls [(0, .ref (a 30 0)), (1, .long (mL m 0)), (3, .int (nI t)), (4, .int (nI j))] rfl ?_
          have haj := hA1 j hj
          refine aw_aload_n (i := 0) C (dec D_Mod_serve rfl) rfl rfl ?_
          refine gf_Mod_62 C (dec D_Mod_serve rfl) ?_
          refine aw_iload C (dec D_Mod_serve rfl) rfl ?_
          refine aw_iconst (v := 1) C (dec D_Mod_serve rfl) (by decide) ?_
          refine as_M15 C Fw j bz1 (dec D_Mod_serve rfl) (ix_of (by omega)) ?_
          refine aw_aload_n (i := 0) C (dec D_Mod_serve rfl) rfl rfl ?_
          refine gf_Mod_65 C (dec D_Mod_serve rfl) ?_
          refine aw_iload C (dec D_Mod_serve rfl) rfl ?_
          refine aw_lconst (v := 0) C (dec D_Mod_serve rfl) (by decide) ?_
          refine as_M16 C Fw j (dec D_Mod_serve rfl) (ix_of (by omega)) ?_
          have e13 : mA (mSrv0 m1 j) 13 = mA m1 13 := rfl
          have e12 : mA (mSrv0 m1 j) 12 j = nI (ap j) := haj.1
          have hL2 : MLn (mSrv0 m1 j) L := hL1.of rfl
          unfold mSrv1 at kz
          rw [← e13] at kz
          change AW E false 0 0 (wld (eG E) a c (mSrv0 m1 j) o) _ _ _
          generalize mSrv0 m1 j = m2 at e13 e12 hL2 kz ⊢
          refine aw_aload_n (i := 0) C (dec D_Mod_serve rfl) rfl rfl ?_
          refine gf_Mod_56 C (dec D_Mod_serve rfl) ?_
          refine aw_iload C (dec D_Mod_serve_1 rfl) rfl ?_
          refine al_M13 C j (dec D_Mod_serve_1 rfl) (ix_of (by omega)) ?_
          refine aw_if_ne (tgt := 178) C (dec D_Mod_serve_1 rfl) (by decide) (fun h154 => ?_) (fun h154 => ?_)
          · rw [if_neg h154] at kz
            refine aw_aload_n (i := 0) C (dec D_Mod_serve_1 rfl) rfl rfl ?_
            refine aw_aload_n (i := 0) C (dec D_Mod_serve_1 rfl) rfl rfl ?_
            refine gf_Mod_53 C (dec D_Mod_serve_1 rfl) ?_
            refine aw_iload C (dec D_Mod_serve_1 rfl) rfl ?_
            refine al_M12 C j (dec D_Mod_serve_1 rfl) (ix_of (by omega)) ?_
            rw [e12]
            refine aw_cv C ci_Mod_173 [_] (c_Mod_isFree _ _ _ _ _ _ (ap j) L haj.2 hL2) (dec D_Mod_serve_1 rfl) rcM rfl fpP (Nat.le_of_ble_eq_true rfl) (by decide) ⟨by decide, by decide⟩ (fun v w2 hp => ?_) (fun _ _ h => by cases h.1)
            obtain ⟨hv, rfl⟩ := hp
            cases hv
            refine aw_if_eq (tgt := 210) C (dec D_Mod_serve_1 rfl) (by decide) (fun h189 => ?_) (fun h189 => ?_)
            · rw [if_neg (by rw [bI_0.mp h189]; decide)] at kz
              refine AW.ls [(0, .ref (a 30 0)), (1, .long (mL m 0)), (3, .int (nI t))] rfl ?_
              refine aw_iinc C (dec D_Mod_serve_1 rfl) rfl (nI_inc t) (by decide) ?_
              show AW E _ _ _ _ 213 _ _
              refine aw_goto (tgt := 53) C (dec D_Mod_serve_1 rfl) (by decide) ?_
              exact kz
            · rw [if_pos (by have z := mt bI_0.mpr h189; simpa using z)] at kz
              refine aw_aload_n (i := 0) C (dec D_Mod_serve_1 rfl) rfl rfl ?_
              refine aw_aload_n (i := 0) C (dec D_Mod_serve_1 rfl) rfl rfl ?_
              refine gf_Mod_53 C (dec D_Mod_serve_1 rfl) ?_
              refine aw_iload C (dec D_Mod_serve_1 rfl) rfl ?_
              refine al_M12 C j (dec D_Mod_serve_1 rfl) (ix_of (by omega)) ?_
              rw [e12]
              refine aw_aload_n (i := 0) C (dec D_Mod_serve_1 rfl) rfl rfl ?_
              refine gf_Mod_59 C (dec D_Mod_serve_1 rfl) ?_
              refine aw_iload C (dec D_Mod_serve_1 rfl) rfl ?_
              refine al_M14 C j (dec D_Mod_serve_1 rfl) (ix_of (by omega)) ?_
              refine aw_cv C ci_Mod_139 [_, _] (c_Mod_write _ _ _ _ _ _ (ap j) _ haj.2) (dec D_Mod_serve_1 rfl) rcM rfl (fpW Fw) (Nat.le_of_ble_eq_true rfl) (by decide) ⟨by decide, by decide⟩ (fun v w2 hp => ?_) (fun _ _ h => by cases h.1)
              obtain ⟨hv, rfl⟩ := hp
              cases hv
              refine AW.ls [(0, .ref (a 30 0)), (1, .long (mL m 0)), (3, .int (nI t))] rfl ?_
              refine aw_iinc C (dec D_Mod_serve_1 rfl) rfl (nI_inc t) (by decide) ?_
              refine aw_goto (tgt := 53) C (dec D_Mod_serve_1 rfl) (by decide) ?_
              exact kz
          · rw [if_pos h154] at kz
            refine aw_aload_n (i := 0) C (dec D_Mod_serve_1 rfl) rfl rfl ?_
            refine gf_Mod_65 C (dec D_Mod_serve_1 rfl) ?_
            refine aw_iload C (dec D_Mod_serve_1 rfl) rfl ?_
            refine aw_aload_n (i := 0) C (dec D_Mod_serve_1 rfl) rfl rfl ?_
            refine aw_aload_n (i := 0) C (dec D_Mod_serve_1 rfl) rfl rfl ?_
            refine gf_Mod_53 C (dec D_Mod_serve_1 rfl) ?_
            refine aw_iload C (dec D_Mod_serve_1 rfl) rfl ?_
            refine al_M12 C j (dec D_Mod_serve_1 rfl) (ix_of (by omega)) ?_
            rw [e12]
            refine aw_cv C ci_Mod_169 [_] (c_Mod_read _ _ _ _ _ _ (ap j) haj.2) (dec D_Mod_serve_1 rfl) rcM rfl (fpW Fw) (Nat.le_of_ble_eq_true rfl) (by decide) ⟨by decide, by decide⟩ (fun v w2 hp => ?_) (fun _ _ h => by cases h.1)
            obtain ⟨hv, rfl⟩ := hp
            cases hv
            refine as_M16 C Fw j (dec D_Mod_serve_1 rfl) (ix_of (by omega)) ?_
            refine aw_goto (tgt := 210) C (dec D_Mod_serve_1 rfl) (by decide) ?_
            refine AW.ls [(0, .ref (a 30 0)), (1, .long (mL m 0)), (3, .int (nI t))] rfl ?_
            refine aw_iinc C (dec D_Mod_serve_1 rfl) rfl (nI_inc t) (by decide) ?_
            show AW E _ _ _ _ 213 _ _
            refine aw_goto (tgt := 53) C (dec D_Mod_serve_1 rfl) (by decide) ?_
            exact kz
        · try simp only [mI_I, mL_I, mA_I, mJ_I, mI_L, mL_L, mA_L, mJ_L, mI_A, mL_A, mA_A, mJ_A, mI_J, mL_J, mA_J, mJ_J, cI_I, cL_I, cA_I, cJ_I, cR_I, cN_I, cI_L, cL_L, cA_L, cJ_L, cR_L, cN_L, cI_A, cL_A, cA_A, cJ_A, cR_A, cN_A, cI_J, cL_J, cA_J, cJ_J, cR_J, cN_J, cI_R, cL_R, cA_R, cJ_R, cR_R, cN_R, cI_N, cL_N, cA_N, cJ_N, cR_N, cN_N, ↓reduceIte, Nat.reduceEqDiff, upd_at, updL_at] at hbk
          have htk : k < q := ix_lt (N := q) hbk
          refine aw_aload_n (i := 0) C (dec D_Mod_serve rfl) rfl rfl ?_
          refine gf_Mod_62 C (dec D_Mod_serve rfl) ?_
          refine aw_iload C (dec D_Mod_serve rfl) rfl ?_
          refine al_M15 C k (dec D_Mod_serve rfl) (ix_of (by omega)) ?_
          refine aw_if_ne (tgt := 121) C (dec D_Mod_serve rfl) (by decide) (fun h83 => ?_) (fun h83 => ?_)
          · refine aw_iload C (dec D_Mod_serve rfl) rfl ?_
            refine aw_istore C (dec D_Mod_serve rfl) (by decide) ?_
            refine aw_iinc C (dec D_Mod_serve rfl) rfl (nI_inc k) (by decide) ?_
            refine aw_goto (tgt := 67) C (dec D_Mod_serve rfl) (by decide) ?_
            refine AW.ls [(0, .ref (a 30 0)), (1, .long (mL m 0)), (3, .int (nI t)), (4, .int y), (5, .int (nI (k + 1)))] rfl ?_
            exact ihk (k + 1) _ (by omega) (by omega) (by rw [mBestN, if_neg h83]; exact hx)
          · refine aw_iload C (dec D_Mod_serve rfl) rfl ?_
            refine aw_if_lt (tgt := 116) C (dec D_Mod_serve rfl) (by decide) (fun h88 => ?_) (fun h88 => ?_)
            · refine aw_iload C (dec D_Mod_serve rfl) rfl ?_
              refine aw_goto (tgt := 123) C (dec D_Mod_serve rfl) (by decide) ?_
              refine aw_istore C (dec D_Mod_serve rfl) (by decide) ?_
              refine aw_iinc C (dec D_Mod_serve rfl) rfl (nI_inc k) (by decide) ?_
              refine aw_goto (tgt := 67) C (dec D_Mod_serve rfl) (by decide) ?_
              refine AW.ls [(0, .ref (a 30 0)), (1, .long (mL m 0)), (3, .int (nI t)), (4, .int (nI k)), (5, .int (nI (k + 1)))] rfl ?_
              exact ihk (k + 1) _ (by omega) (by omega) (by rw [mBestN, if_pos h83, if_pos (hx ▸ h88)])
            · obtain ⟨i, hi, ei⟩ : ∃ i, i < q ∧ y = nI i := by
                rcases mBestN_or m1 k (by omega) with ⟨z, _⟩ | ⟨i, hi, z, _⟩
                · exact absurd (by rw [hx, z]; decide) h88
                · exact ⟨i, by omega, by rw [hx, z]⟩
              have eic : (mBestN m1 k).toNatClampNeg = i := by rw [← hx, ei, nI_clamp (by omega)]
              subst ei
              refine aw_aload_n (i := 0) C (dec D_Mod_serve rfl) rfl rfl ?_
              refine aw_aload_n (i := 0) C (dec D_Mod_serve rfl) rfl rfl ?_
              refine gf_Mod_53 C (dec D_Mod_serve rfl) ?_
              refine aw_iload C (dec D_Mod_serve rfl) rfl ?_
              refine al_M12 C k (dec D_Mod_serve rfl) (ix_of (by omega)) ?_
              refine aw_cv C ci_Mod_87 [_] (c_Mod_stepsTo _ _ _ _ _ _ _) (dec D_Mod_serve rfl) rcM rfl fpP (Nat.le_of_ble_eq_true rfl) (by decide) ⟨by decide, by decide⟩ (fun v w2 hp => ?_) (fun _ _ h => by cases h.1)
              obtain ⟨hv, rfl⟩ := hp
              cases hv
              refine aw_aload_n (i := 0) C (dec D_Mod_serve rfl) rfl rfl ?_
              refine aw_aload_n (i := 0) C (dec D_Mod_serve rfl) rfl rfl ?_
              refine gf_Mod_53 C (dec D_Mod_serve rfl) ?_
              refine aw_iload C (dec D_Mod_serve rfl) rfl ?_
              show AW E _ _ _ _ 109 _ _
              refine al_M12 C i (dec D_Mod_serve rfl) (ix_of (by omega)) ?_
              refine aw_cv C ci_Mod_87 [_] (c_Mod_stepsTo _ _ _ _ _ _ _) (dec D_Mod_serve rfl) rcM rfl fpP (Nat.le_of_ble_eq_true rfl) (by decide) ⟨by decide, by decide⟩ (fun v w2 hp => ?_) (fun _ _ h => by cases h.1)
              obtain ⟨hv, rfl⟩ := hp
              cases hv
              refine aw_icmp_ge (tgt := 121) C (dec D_Mod_serve rfl) (by decide) (fun h113 => ?_) (fun h113 => ?_)
              · refine aw_iload C (dec D_Mod_serve rfl) rfl ?_
                refine aw_istore C (dec D_Mod_serve rfl) (by decide) ?_
                refine aw_iinc C (dec D_Mod_serve rfl) rfl (nI_inc k) (by decide) ?_
                refine aw_goto (tgt := 67) C (dec D_Mod_serve rfl) (by decide) ?_
                refine AW.ls [(0, .ref (a 30 0)), (1, .long (mL m 0)), (3, .int (nI t)), (4, .int (nI i)), (5, .int (nI (k + 1)))] rfl ?_
                exact ihk (k + 1) _ (by omega) (by omega) (by rw [mBestN, if_pos h83, if_neg (hx ▸ h88), eic, if_pos h113, hx])
              · refine aw_iload C (dec D_Mod_serve rfl) rfl ?_
                refine aw_goto (tgt := 123) C (dec D_Mod_serve rfl) (by decide) ?_
                refine aw_istore C (dec D_Mod_serve rfl) (by decide) ?_
                refine aw_iinc C (dec D_Mod_serve rfl) rfl (nI_inc k) (by decide) ?_
                refine aw_goto (tgt := 67) C (dec D_Mod_serve rfl) (by decide) ?_
                refine AW.ls [(0, .ref (a 30 0)), (1, .long (mL m 0)), (3, .int (nI t)), (4, .int (nI k)), (5, .int (nI (k + 1)))] rfl ?_
                exact ihk (k + 1) _ (by omega) (by omega) (by rw [mBestN, if_pos h83, if_neg (hx ▸ h88), eic, if_neg h113])
    refine aw_iconst (v := (-1)) C (dec D_Mod_serve rfl) (by decide) ?_
    refine aw_istore C (dec D_Mod_serve rfl) (by decide) ?_
    refine aw_iconst (v := 0) C (dec D_Mod_serve rfl) (by decide) ?_
    refine aw_istore C (dec D_Mod_serve rfl) (by decide) ?_
    exact lpk (q + 1) 0 _ (by omega) (by omega) rfl
  have k216 : ¬ mReady m = 0 → ∀ x3 : Int32, AW E false 0 0 (wld (eG E) a c (mServe1 m L q ap) o) 216 [(0, .ref (a 30 0)), (1, .long (mL m 0)), (3, .int x3)] [] := by
    intro hr x3
    have eM : mServe m L q ap = if mI (mServe1 m L q ap) 4 = 0 then smI (mServe1 m L q ap) 0 1 else smI (smI (smI (mServe1 m L q ap) 0 0) 9 (mI (mServe1 m L q ap) 8)) 8 0 := by rw [mServe, if_neg hr]
    have eR : mServeR m L q ap = if mI (mServe1 m L q ap) 4 = 0 then 0 else (mL (mServe1 m L q ap) 0 - mL m 0).toInt32 := by rw [mServeR, if_neg hr]
    rw [eM, eR] at r
    generalize mServe1 m L q ap = m9 at r ⊢
    clear eM eR
    refine aw_aload_n (i := 0) C (dec D_Mod_serve_1 rfl) rfl rfl ?_
    refine aw_aload_n (i := 0) C (dec D_Mod_serve_1 rfl) rfl rfl ?_
    refine gf_Mod_21 C (dec D_Mod_serve_1 rfl) ?_
    refine aw_if_eq (tgt := 228) C (dec D_Mod_serve_1 rfl) (by decide) (fun h221 => ?_) (fun h221 => ?_)
    · try simp only [mI_I, mL_I, mA_I, mJ_I, mI_L, mL_L, mA_L, mJ_L, mI_A, mL_A, mA_A, mJ_A, mI_J, mL_J, mA_J, mJ_J, cI_I, cL_I, cA_I, cJ_I, cR_I, cN_I, cI_L, cL_L, cA_L, cJ_L, cR_L, cN_L, cI_A, cL_A, cA_A, cJ_A, cR_A, cN_A, cI_J, cL_J, cA_J, cJ_J, cR_J, cN_J, cI_R, cL_R, cA_R, cJ_R, cR_R, cN_R, cI_N, cL_N, cA_N, cJ_N, cR_N, cN_N, ↓reduceIte, Nat.reduceEqDiff, upd_at, updL_at] at h221
      refine aw_iconst (v := 1) C (dec D_Mod_serve_1 rfl) (by decide) ?_
      refine pf_Mod_71 C Fw (dec D_Mod_serve_1 rfl) ?_
      refine aw_aload_n (i := 0) C (dec D_Mod_serve_1 rfl) rfl rfl ?_
      refine gf_Mod_71 C (dec D_Mod_serve_1 rfl) ?_
      refine aw_if_le (tgt := 241) C (dec D_Mod_serve_1 rfl) (by decide) (fun h_ => absurd h_ (show ¬ (1 : Int32) ≤ (0 : Int32) by decide)) (fun _ => ?_)
      refine aw_iconst (v := 0) C (dec D_Mod_serve_1 rfl) (by decide) ?_
      refine aw_ret_i C r (dec D_Mod_serve_1 rfl) rfl (by decide) (by decide) ?_
      refine ⟨?_, ?_⟩ <;> first | with_reducible rfl | (simp [mI_I, mL_I, mA_I, mJ_I, mI_L, mL_L, mA_L, mJ_L, mI_A, mL_A, mA_A, mJ_A, mI_J, mL_J, mA_J, mJ_J, cI_I, cL_I, cA_I, cJ_I, cR_I, cN_I, cI_L, cL_L, cA_L, cJ_L, cR_L, cN_L, cI_A, cL_A, cA_A, cJ_A, cR_A, cN_A, cI_J, cL_J, cA_J, cJ_J, cR_J, cN_J, cI_R, cL_R, cA_R, cJ_R, cR_R, cN_R, cI_N, cL_N, cA_N, cJ_N, cR_N, cN_N, ↓reduceIte, Nat.reduceEqDiff, upd_at, updL_at, h221]; done) | (simp [mI_I, mL_I, mA_I, mJ_I, mI_L, mL_L, mA_L, mJ_L, mI_A, mL_A, mA_A, mJ_A, mI_J, mL_J, mA_J, mJ_J, cI_I, cL_I, cA_I, cJ_I, cR_I, cN_I, cI_L, cL_L, cA_L, cJ_L, cR_L, cN_L, cI_A, cL_A, cA_A, cJ_A, cR_A, cN_A, cI_J, cL_J, cA_J, cJ_J, cR_J, cN_J, cI_R, cL_R, cA_R, cJ_R, cR_R, cN_R, cI_N, cL_N, cA_N, cJ_N, cR_N, cN_N, ↓reduceIte, Nat.reduceEqDiff, upd_at, updL_at, h221]; rfl)
    · try simp only [mI_I, mL_I, mA_I, mJ_I, mI_L, mL_L, mA_L, mJ_L, mI_A, mL_A, mA_A, mJ_A, mI_J, mL_J, mA_J, mJ_J, cI_I, cL_I, cA_I, cJ_I, cR_I, cN_I, cI_L, cL_L, cA_L, cJ_L, cR_L, cN_L, cI_A, cL_A, cA_A, cJ_A, cR_A, cN_A, cI_J, cL_J, cA_J, cJ_J, cR_J, cN_J, cI_R, cL_R, cA_R, cJ_R, cR_R, cN_R, cI_N, cL_N, cA_N, cJ_N, cR_N, cN_N, ↓reduceIte, Nat.reduceEqDiff, upd_at, updL_at] at h221
      refine aw_iconst (v := 0) C (dec D_Mod_serve_1 rfl) (by decide) ?_
      show AW E _ _ _ _ 225 _ _
      refine aw_goto (tgt := 229) C (dec D_Mod_serve_1 rfl) (by decide) ?_
      refine pf_Mod_71 C Fw (dec D_Mod_serve_1 rfl) ?_
      refine aw_aload_n (i := 0) C (dec D_Mod_serve_1 rfl) rfl rfl ?_
      refine gf_Mod_71 C (dec D_Mod_serve_1 rfl) ?_
      refine aw_if_le (tgt := 241) C (dec D_Mod_serve_1 rfl) (by decide) (fun _ => ?_) (fun h_ => absurd (show (0 : Int32) ≤ (0 : Int32) by decide) h_)
      refine aw_aload_n (i := 0) C (dec D_Mod_serve_1 rfl) rfl rfl ?_
      refine aw_aload_n (i := 0) C (dec D_Mod_serve_1 rfl) rfl rfl ?_
      refine gf_Mod_102 C (dec D_Mod_serve_1 rfl) ?_
      refine pf_Mod_105 C Fw (dec D_Mod_serve_1 rfl) ?_
      refine aw_aload_n (i := 0) C (dec D_Mod_serve_1 rfl) rfl rfl ?_
      refine aw_iconst (v := 0) C (dec D_Mod_serve_1 rfl) (by decide) ?_
      refine pf_Mod_102 C Fw (dec D_Mod_serve_1 rfl) ?_
      refine aw_aload_n (i := 0) C (dec D_Mod_serve_1 rfl) rfl rfl ?_
      refine gf_Mod_80 C (dec D_Mod_serve_1 rfl) ?_
      refine aw_lload_n (i := 1) C (dec D_Mod_serve_1 rfl) rfl rfl ?_
      refine aw_lsub C (dec D_Mod_serve_1 rfl) ?_
      refine aw_l2i C (dec D_Mod_serve_1 rfl) ?_
      refine aw_ret_i C r (dec D_Mod_serve_1 rfl) rfl (by decide) (by decide) ?_
      refine ⟨?_, ?_⟩ <;> first | with_reducible rfl | (simp [mI_I, mL_I, mA_I, mJ_I, mI_L, mL_L, mA_L, mJ_L, mI_A, mL_A, mA_A, mJ_A, mI_J, mL_J, mA_J, mJ_J, cI_I, cL_I, cA_I, cJ_I, cR_I, cN_I, cI_L, cL_L, cA_L, cJ_L, cR_L, cN_L, cI_A, cL_A, cA_A, cJ_A, cR_A, cN_A, cI_J, cL_J, cA_J, cJ_J, cR_J, cN_J, cI_R, cL_R, cA_R, cJ_R, cR_R, cN_R, cI_N, cL_N, cA_N, cJ_N, cR_N, cN_N, ↓reduceIte, Nat.reduceEqDiff, upd_at, updL_at, h221]; done) | (simp [mI_I, mL_I, mA_I, mJ_I, mI_L, mL_L, mA_L, mJ_L, mI_A, mL_A, mA_A, mJ_A, mI_J, mL_J, mA_J, mJ_J, cI_I, cL_I, cA_I, cJ_I, cR_I, cN_I, cI_L, cL_L, cA_L, cJ_L, cR_L, cN_L, cI_A, cL_A, cA_A, cJ_A, cR_A, cN_A, cI_J, cL_J, cA_J, cJ_J, cR_J, cN_J, cI_R, cL_R, cA_R, cJ_R, cR_R, cN_R, cI_N, cL_N, cA_N, cJ_N, cR_N, cN_N, ↓reduceIte, Nat.reduceEqDiff, upd_at, updL_at, h221]; rfl)
  have hq16 := hq.2
  have lp2 : ¬ mReady m = 0 → ∀ (n t : Nat) , q - t < n → t ≤ q → AW E false 0 0 (wld (eG E) a c (mSrvN (mDone0 (smI m 0 0) 16) L q ap t) o) 53 [(0, .ref (a 30 0)), (1, .long (mL m 0)), (3, .int (nI t))] [] := by
    intro hr n
    induction n with
    | zero => intro t  h1 h2; omega
    | succ n ih =>
      intro t  h1t h2t
      refine aw_iload_n (i := 3) C (dec D_Mod_serve rfl) rfl rfl ?_
      refine aw_aload_n (i := 0) C (dec D_Mod_serve rfl) rfl rfl ?_
      refine gf_Mod_102 C (dec D_Mod_serve rfl) ?_
      rw [show mI (mSrvN (mDone0 (smI m 0 0) 16) L q ap t) 8 = nI q from by rw [mSrvN_I _ _ _ _ (by decide) (by decide) (by decide), mDone0_I]; exact hq.1]
      refine aw_icmp_ge (tgt := 216) C (dec D_Mod_serve rfl) (by decide) (fun hb => ?_) (fun hb => ?_)
      · try simp only [mI_I, mL_I, mA_I, mJ_I, mI_L, mL_L, mA_L, mJ_L, mI_A, mL_A, mA_A, mJ_A, mI_J, mL_J, mA_J, mJ_J, cI_I, cL_I, cA_I, cJ_I, cR_I, cN_I, cI_L, cL_L, cA_L, cJ_L, cR_L, cN_L, cI_A, cL_A, cA_A, cJ_A, cR_A, cN_A, cI_J, cL_J, cA_J, cJ_J, cR_J, cN_J, cI_R, cL_R, cA_R, cJ_R, cR_R, cN_R, cI_N, cL_N, cA_N, cJ_N, cR_N, cN_N, ↓reduceIte, Nat.reduceEqDiff, upd_at, updL_at] at hb
        have e9 : t = q := by have := ix_ge (N := q) hb; omega
        subst e9
        exact k216 hr _
      · try simp only [mI_I, mL_I, mA_I, mJ_I, mI_L, mL_L, mA_L, mJ_L, mI_A, mL_A, mA_A, mJ_A, mI_J, mL_J, mA_J, mJ_J, cI_I, cL_I, cA_I, cJ_I, cR_I, cN_I, cI_L, cL_L, cA_L, cJ_L, cR_L, cN_L, cI_A, cL_A, cA_A, cJ_A, cR_A, cN_A, cI_J, cL_J, cA_J, cJ_J, cR_J, cN_J, cI_R, cL_R, cA_R, cJ_R, cR_R, cN_R, cI_N, cL_N, cA_N, cJ_N, cR_N, cN_N, ↓reduceIte, Nat.reduceEqDiff, upd_at, updL_at] at hb
        have htt : t < q := ix_lt (N := q) hb
        have hz := (mSrvN_best (m := (mDone0 (smI m 0 0) 16)) (L := L) (ap := ap) hq.2 (fun j hj => mDone0_at _ _ (by have := hq.2; omega)) t (by omega)).2 htt
        refine hrd _ t _ (hL.of (by rw [mSrvN_A _ _ _ _ (by decide), mDone0_A _ (by decide)]; rfl)) ?_ (fun k hk => ?_) hz.2.1 hz.1 (ih (t + 1) (by omega) (by omega))
        · rw [mSrvN_I _ _ _ _ (by decide) (by decide) (by decide), mDone0_I]; exact hq.1
        · rw [mSrvN_A _ _ _ _ (by decide), mDone0_A _ (by decide)]; exact hA k hk
  have lp1 : ¬ mReady m = 0 → ∀ (n t : Nat) , 16 - t < n → t ≤ 16 → AW E false 0 0 (wld (eG E) a c (mDone0 (smI m 0 0) t) o) 32 [(0, .ref (a 30 0)), (1, .long (mL m 0)), (3, .int (nI t))] [] := by
    intro hr n
    induction n with
    | zero => intro t  h1 h2; omega
    | succ n ih =>
      intro t  h1t h2t
      refine aw_iload_n (i := 3) C (dec D_Mod_serve rfl) rfl rfl ?_
      refine aw_bipush (v := 16) C (dec D_Mod_serve rfl) (by decide) ?_
      refine aw_icmp_ge (tgt := 51) C (dec D_Mod_serve rfl) (by decide) (fun hb => ?_) (fun hb => ?_)
      · try simp only [mI_I, mL_I, mA_I, mJ_I, mI_L, mL_L, mA_L, mJ_L, mI_A, mL_A, mA_A, mJ_A, mI_J, mL_J, mA_J, mJ_J, cI_I, cL_I, cA_I, cJ_I, cR_I, cN_I, cI_L, cL_L, cA_L, cJ_L, cR_L, cN_L, cI_A, cL_A, cA_A, cJ_A, cR_A, cN_A, cI_J, cL_J, cA_J, cJ_J, cR_J, cN_J, cI_R, cL_R, cA_R, cJ_R, cR_R, cN_R, cI_N, cL_N, cA_N, cJ_N, cR_N, cN_N, ↓reduceIte, Nat.reduceEqDiff, upd_at, updL_at] at hb
        have e9 : t = 16 := by have := ix_ge (N := 16) hb; omega
        subst e9
        refine AW.ls [(0, .ref (a 30 0)), (1, .long (mL m 0))] rfl ?_
        refine aw_iconst (v := 0) C (dec D_Mod_serve rfl) (by decide) ?_
        refine aw_istore_n (i := 3) C (dec D_Mod_serve rfl) rfl (by decide) ?_
        exact lp2 hr (q + 1) 0 (by omega) (by omega)
      · try simp only [mI_I, mL_I, mA_I, mJ_I, mI_L, mL_L, mA_L, mJ_L, mI_A, mL_A, mA_A, mJ_A, mI_J, mL_J, mA_J, mJ_J, cI_I, cL_I, cA_I, cJ_I, cR_I, cN_I, cI_L, cL_L, cA_L, cJ_L, cR_L, cN_L, cI_A, cL_A, cA_A, cJ_A, cR_A, cN_A, cI_J, cL_J, cA_J, cJ_J, cR_J, cN_J, cI_R, cL_R, cA_R, cJ_R, cR_R, cN_R, cI_N, cL_N, cA_N, cJ_N, cR_N, cN_N, ↓reduceIte, Nat.reduceEqDiff, upd_at, updL_at] at hb
        have htt : t < 16 := ix_lt (N := 16) hb
        refine aw_aload_n (i := 0) C (dec D_Mod_serve rfl) rfl rfl ?_
        show AW E _ _ _ _ 39 _ _
        refine gf_Mod_62 C (dec D_Mod_serve rfl) ?_
        refine aw_iload_n (i := 3) C (dec D_Mod_serve rfl) rfl rfl ?_
        refine aw_iconst (v := 0) C (dec D_Mod_serve rfl) (by decide) ?_
        refine as_M15 C Fw t bz0 (dec D_Mod_serve rfl) (ix_of htt) ?_
        refine aw_iinc C (dec D_Mod_serve rfl) rfl (nI_inc t) (by decide) ?_
        refine aw_goto (tgt := 32) C (dec D_Mod_serve rfl) (by decide) ?_
        exact ih (t + 1) (by omega) (by omega)
  refine aw_aload_n (i := 0) C (dec D_Mod_serve rfl) rfl rfl ?_
  refine aw_aload_n (i := 0) C (dec D_Mod_serve rfl) rfl rfl ?_
  refine aw_cv C ci_Mod_160 [] (c_Mod_isReady _ _ _ _ _ _) (dec D_Mod_serve rfl) rcM rfl fpP (Nat.le_of_ble_eq_true rfl) (by decide) ⟨by decide, by decide⟩ (fun v w2 hp => ?_) (fun _ _ h => by cases h.1)
  obtain ⟨hv, rfl⟩ := hp
  cases hv
  refine aw_if_eq (tgt := 12) C (dec D_Mod_serve rfl) (by decide) (fun h5 => ?_) (fun h5 => ?_)
  · try simp only [mI_I, mL_I, mA_I, mJ_I, mI_L, mL_L, mA_L, mJ_L, mI_A, mL_A, mA_A, mJ_A, mI_J, mL_J, mA_J, mJ_J, cI_I, cL_I, cA_I, cJ_I, cR_I, cN_I, cI_L, cL_L, cA_L, cJ_L, cR_L, cN_L, cI_A, cL_A, cA_A, cJ_A, cR_A, cN_A, cI_J, cL_J, cA_J, cJ_J, cR_J, cN_J, cI_R, cL_R, cA_R, cJ_R, cR_R, cN_R, cI_N, cL_N, cA_N, cJ_N, cR_N, cN_N, ↓reduceIte, Nat.reduceEqDiff, upd_at, updL_at] at h5
    refine aw_iconst (v := 1) C (dec D_Mod_serve rfl) (by decide) ?_
    refine pf_Mod_71 C Fw (dec D_Mod_serve rfl) ?_
    refine aw_aload_n (i := 0) C (dec D_Mod_serve rfl) rfl rfl ?_
    refine gf_Mod_71 C (dec D_Mod_serve rfl) ?_
    refine aw_if_le (tgt := 25) C (dec D_Mod_serve rfl) (by decide) (fun h_ => absurd h_ (show ¬ (1 : Int32) ≤ (0 : Int32) by decide)) (fun _ => ?_)
    refine aw_iconst (v := 0) C (dec D_Mod_serve rfl) (by decide) ?_
    refine aw_ret_i C r (dec D_Mod_serve rfl) rfl (by decide) (by decide) ?_
    exact ⟨by rw [mServeR, if_pos h5], by rw [mServe, if_pos h5]⟩
  · try simp only [mI_I, mL_I, mA_I, mJ_I, mI_L, mL_L, mA_L, mJ_L, mI_A, mL_A, mA_A, mJ_A, mI_J, mL_J, mA_J, mJ_J, cI_I, cL_I, cA_I, cJ_I, cR_I, cN_I, cI_L, cL_L, cA_L, cJ_L, cR_L, cN_L, cI_A, cL_A, cA_A, cJ_A, cR_A, cN_A, cI_J, cL_J, cA_J, cJ_J, cR_J, cN_J, cI_R, cL_R, cA_R, cJ_R, cR_R, cN_R, cI_N, cL_N, cA_N, cJ_N, cR_N, cN_N, ↓reduceIte, Nat.reduceEqDiff, upd_at, updL_at] at h5
    refine aw_iconst (v := 0) C (dec D_Mod_serve rfl) (by decide) ?_
    refine aw_goto (tgt := 13) C (dec D_Mod_serve rfl) (by decide) ?_
    refine pf_Mod_71 C Fw (dec D_Mod_serve rfl) ?_
    refine aw_aload_n (i := 0) C (dec D_Mod_serve rfl) rfl rfl ?_
    refine gf_Mod_71 C (dec D_Mod_serve rfl) ?_
    refine aw_if_le (tgt := 25) C (dec D_Mod_serve rfl) (by decide) (fun _ => ?_) (fun h_ => absurd (show (0 : Int32) ≤ (0 : Int32) by decide) h_)
    refine aw_aload_n (i := 0) C (dec D_Mod_serve rfl) rfl rfl ?_
    refine gf_Mod_80 C (dec D_Mod_serve rfl) ?_
    refine aw_lstore_n (i := 1) C (dec D_Mod_serve rfl) rfl (by decide) ?_
    refine aw_iconst (v := 0) C (dec D_Mod_serve rfl) (by decide) ?_
    refine aw_istore_n (i := 3) C (dec D_Mod_serve rfl) rfl (by decide) ?_
    exact lp1 h5 17 0 (by omega) (by omega)
