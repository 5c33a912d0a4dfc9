/-! the model: mount; printed by tools/m29.py -/
def dl_Mod_mount_1 : List (Nat × Instr × Nat) := [(141, .getfield 47, 3), (144, .iconst 0, 1), (145, .iaload, 1), (146, .putfield 113, 3), (149, .iconst 0, 1), (150, .istore 5, 2), (152, .iload 5, 2), (154, .bipush 8, 2), (156, .if_icmp .ge 123, 3), (159, .aload_n 0, 1), (160, .getfield 25, 3), (163, .iload 5, 2), (165, .aload_n 0, 1), (166, .iconst 1, 1), (167, .bipush 7, 2), (169, .iload 5, 2), (171, .imul, 1), (172, .iadd, 1), (173, .iconst 4, 1), (174, .invokevirtual 149, 3), (177, .iastore, 1), (178, .aload_n 0, 1), (179, .getfield 29, 3), (182, .iload 5, 2), (184, .aload_n 0, 1), (185, .getfield 25, 3), (188, .iload 5, 2), (190, .iaload, 1), (191, .ifCond .ne 7, 3), (194, .iconst 0, 1), (195, .goto 16, 3), (198, .aload_n 0, 1), (199, .bipush 6, 2), (201, .bipush 7, 2), (203, .iload 5, 2), (205, .imul, 1), (206, .iadd, 1), (207, .iconst 2, 1), (208, .invokevirtual 149, 3), (211, .iastore, 1), (212, .aload_n 0, 1), (213, .getfield 47, 3), (216, .iconst 5, 1), (217, .bipush 7, 2), (219, .iload 5, 2), (221, .imul, 1), (222, .iadd, 1), (223, .iaload, 1), (224, .istore 6, 2), (226, .iconst 0, 1), (227, .istore 7, 2), (229, .iload 7, 2), (231, .aload_n 0, 1), (232, .iload 5, 2), (234, .invokevirtual 122, 3), (237, .if_icmp .ge 36, 3), (240, .aload_n 0, 1), (241, .getfield 32, 3), (244, .bipush 64, 2), (246, .iload 5, 2), (248, .imul, 1), (249, .iload 7, 2), (251, .iadd, 1), (252, .iload 6, 2), (254, .iastore, 1), (255, .aload_n 0, 1), (256, .getfield 47, 3), (259, .bipush 57, 2), (261, .iload 6, 2), (263, .iadd, 1), (264, .iaload, 1), (265, .istore 6, 2), (267, .iinc 7 1, 3), (270, .goto (-41), 3), (273, .iinc 5 1, 3), (276, .goto (-124), 3), (279, .aload_n 0, 1), (280, .invokevirtual 143, 3), (283, .aload_n 0, 1), (284, .iconst 1, 1)]
theorem D_Mod_mount_1 : ∀ q ∈ dl_Mod_mount_1, decode b_Mod_mount q.1 = .ok q.2 := by decide +kernel
def dl_Mod_mount_2 : List (Nat × Instr × Nat) := [(285, .putfield 77, 3), (288, .iconst 1, 1), (289, .ireturn, 1)]
theorem D_Mod_mount_2 : ∀ q ∈ dl_Mod_mount_2, decode b_Mod_mount q.1 = .ok q.2 := by decide +kernel
def mTurns (m : MM) : Nat → MM
  | 0 => m
  | t + 1 => mTurn (mTurns m t) (nI t)
theorem mTurns_A (m : MM) : ∀ t, mA (mTurns m t) = mA m
  | 0 => rfl
  | t + 1 => mTurns_A m t
theorem mTurns_J (m : MM) : ∀ t, mJ (mTurns m t) = mJ m
  | 0 => rfl
  | t + 1 => mTurns_J m t
def mMt0 (m : MM) : MM := mForget (smI (smI (smI m 0 0) 4 1) 3 (-1))
def mMt2 (m : MM) : MM := mLoadN (mTurns (mMt0 m) 40) 1 20
def mMt3 (m : MM) : MM := mLoadN (mMt2 m) 0 20
def mAhead (m : MM) : Int32 := mA (mMt2 m) 10 0 - mA (mMt3 m) 10 0 + 256 - (mA (mMt2 m) 10 0 - mA (mMt3 m) 10 0 + 256) / 256 * 256
def mCur (m : MM) : Nat := if mValid (mMt3 m) = 0 then 1 else if mValid (mMt2 m) = 0 then 0 else if mAhead m = 0 then 0 else if mAhead m ≤ 127 then 1 else 0
def mMt5 (m : MM) : MM := mLoadN (smI (mMt3 m) 6 (nI (mCur m))) (mCur m) 20
def mMt6 (m : MM) : MM := smI (mMt5 m) 7 (mA (mMt5 m) 10 0)
theorem mGetB_of {m m' : MM} (e : mA m' 10 = mA m 10) (p : Nat) : ∀ k, mGetB m' p k = mGetB m p k
  | 0 => rfl
  | k + 1 => by rw [mGetB, mGetB, mGetB_of e p k, e]
/-- what the image holds: lengths L, chains ch -/
def MIm (m : MM) (L : Nat → Nat) (ch : Nat → Nat → Nat) : Prop := ∀ f, f < 8 → (if mGetB m (1 + 7 * f) 4 = 0 then 0 else mGetB m (6 + 7 * f) 2) = nI (L f) ∧ L f ≤ 488 ∧ (∀ i, i < pg (L f) → ch f i < 101) ∧ (0 < pg (L f) → mA m 10 (5 + 7 * f) = nI (ch f 0)) ∧ (∀ i, i + 1 < pg (L f) → mA m 10 (57 + ch f i) = nI (ch f (i + 1)))
theorem MIm.of {m m' : MM} {L : Nat → Nat} {ch : Nat → Nat → Nat} (h : MIm m L ch) (e : mA m' 10 = mA m 10) : MIm m' L ch := fun f hf => by
  rw [mGetB_of e, mGetB_of e, e]; exact h f hf
def mMtC (m : MM) (ch : Nat → Nat → Nat) (f : Nat) : Nat → MM
  | 0 => m
  | i + 1 => mS (mMtC m ch f i) 5 (64 * f + i) (nI (ch f i))
theorem mMtC_A (m : MM) (ch : Nat → Nat → Nat) (f : Nat) {j : Nat} (h5 : j ≠ 5) : ∀ t, mA (mMtC m ch f t) j = mA m j
  | 0 => rfl
  | t + 1 => by rw [mMtC, mS, mA_A, if_neg h5]; exact mMtC_A m ch f h5 t
theorem mMtC_I (m : MM) (ch : Nat → Nat → Nat) (f : Nat) : ∀ t, mI (mMtC m ch f t) = mI m
  | 0 => rfl
  | t + 1 => by rw [mMtC, mS, mI_A]; exact mMtC_I m ch f t
def mMtN (m : MM) (L : Nat → Nat) (ch : Nat → Nat → Nat) : Nat → MM
  | 0 => m
  | f + 1 => mMtC (mS (mS (mMtN m L ch f) 3 f (mGetB m (1 + 7 * f) 4)) 4 f (nI (L f))) ch f (pg (L f))
theorem mMtN_A (m : MM) (L : Nat → Nat) (ch : Nat → Nat → Nat) {j : Nat} (h3 : j ≠ 3) (h4 : j ≠ 4) (h5 : j ≠ 5) : ∀ f, mA (mMtN m L ch f) j = mA m j
  | 0 => rfl
  | f + 1 => by rw [mMtN, mMtC_A _ _ _ h5, mS, mA_A, if_neg h4, mS, mA_A, if_neg h3]; exact mMtN_A m L ch h3 h4 h5 f
theorem mMtN_I (m : MM) (L : Nat → Nat) (ch : Nat → Nat → Nat) : ∀ f, mI (mMtN m L ch f) = mI m
  | 0 => rfl
  | f + 1 => by rw [mMtN, mMtC_I, mS, mI_A, mS, mI_A]; exact mMtN_I m L ch f
theorem mMtN_4 (m : MM) (L : Nat → Nat) (ch : Nat → Nat → Nat) {g : Nat} : ∀ f, g < f → mA (mMtN m L ch f) 4 g = nI (L g)
  | 0, h => absurd h (Nat.not_lt_zero _)
  | f + 1, h => by
    rw [mMtN, mMtC_A _ _ _ (by decide), mS, mA_A, if_pos rfl, upd_at]
    by_cases e : g = f
    · subst e; rw [if_pos rfl]
    · rw [if_neg e, mS, mA_A, if_neg (by decide)]; exact mMtN_4 m L ch f (by omega)
theorem mMtN_L {m : MM} {L : Nat → Nat} {ch : Nat → Nat → Nat} (h : MIm m L ch) : MLn (mMtN m L ch 8) L := fun f hf => ⟨mMtN_4 m L ch 8 hf, (h f hf).2.1⟩
def mMount (m : MM) (L : Nat → Nat) (ch : Nat → Nat → Nat) : MM :=
  if mI m 1 = 0 then mMt0 m else if mValid (mMt3 m) = 0 ∧ mValid (mMt2 m) = 0 then mMt3 m else smI (mHoldN (mMtN (mMt6 m) L ch 8) L 101) 5 1
def mMountR (m : MM) : Int32 := if mI m 1 = 0 then 0 else if mValid (mMt3 m) = 0 ∧ mValid (mMt2 m) = 0 then 0 else 1
theorem mCur_2 (m : MM) : mCur m < 2 := by
  unfold mCur; split
  · decide
  · split
    · decide
    · split
      · decide
      · split <;> decide
theorem c_Mod_mount (l : Launch) (G : GG) (a : AD) (c : CC) (m : MM) (o : OO) (L : Nat → Nat) (ch : Nat → Nat → Nat) (hP : ¬ mI m 1 = 0 → ¬ (mValid (mMt3 m) = 0 ∧ mValid (mMt2 m) = 0) → MIm (mMt5 m) L ch) : CT l G y_Mod_mount (.code y_Mod_mount b_Mod_mount 8 (some .boolean)) 3 0 0 (Fyes G) (wld G a c m o) [.ref (a 30 0)] (fun r w2 => r = .inl (some (.int (mMountR m))) ∧ w2 = wld G a c (mMount m L ch) o) := by
  refine CT.of (by decide) (Nat.le_of_ble_eq_true rfl) rfl ?_
  intro E hl hG hF C r hw hex hnm
  subst hl; subst hG
  have Fw : Cw E := fun a h => by rw [hF]; exact h
  have k149 : ¬ mI m 1 = 0 → ¬ (mValid (mMt3 m) = 0 ∧ mValid (mMt2 m) = 0) → ∀ x1 x2 x3 x4 : Int32, AW E false 0 0 (wld (eG E) a c (mMt6 m) o) 149 [(0, .ref (a 30 0)), (1, .int x1), (2, .int x2), (3, .int x3), (4, .int x4)] [] := by
    intro hmp hv x1 x2 x3 x4
    have hI : MIm (mMt6 m) L ch := (hP hmp hv).of rfl
    have eM : mMount m L ch = smI (mHoldN (mMtN (mMt6 m) L ch 8) L 101) 5 1 := by rw [mMount, if_neg hmp, if_neg hv]
    have eR : mMountR m = 1 := by rw [mMountR, if_neg hmp, if_neg hv]
    rw [eM, eR] at r
    clear hP eM eR
    generalize mMt6 m = m6 at hI r ⊢
    have lp3 : ∀ (n f : Nat) , 8 - f < n → f ≤ 8 → AW E false 0 0 (wld (eG E) a c (mMtN m6 L ch f) o) 152 [(0, .ref (a 30 0)), (1, .int x1), (2, .int x2), (3, .int x3), (4, .int x4), (5, .int (nI f))] [] := by
      intro n
      induction n with
      | zero => intro f  h1 h2; omega
      | succ n ih =>
        intro f  h1f h2f
        refine aw_iload C (dec D_Mod_mount_1 rfl) rfl ?_
        refine aw_bipush (v := 8) C (dec D_Mod_mount_1 rfl) (by decide) ?_
        refine aw_icmp_ge (tgt := 279) C (dec D_Mod_mount_1 rfl) (by decide) (fun hb => ?_) (fun hb => ?_)
        · try simp only [mI_I, mL_I, mA_I, mJ_I, mI_L, mL_L, mA_L, mJ_L, mI_A, mL_A, mA_A, mJ_A, mI_J, mL_J, mA_J, mJ_J, cI_I, cL_I, cA_I, cJ_I, cR_I, cN_I, cI_L, cL_L, cA_L, cJ_L, cR_L, cN_L, cI_A, cL_A, cA_A, cJ_A, cR_A, cN_A, cI_J, cL_J, cA_J, cJ_J, cR_J, cN_J, cI_R, cL_R, cA_R, cJ_R, cR_R, cN_R, cI_N, cL_N, cA_N, cJ_N, cR_N, cN_N, ↓reduceIte, Nat.reduceEqDiff, upd_at, updL_at] at hb
          have e9 : f = 8 := by have := ix_ge (N := 8) hb; omega
          subst e9
          refine AW.ls [(0, .ref (a 30 0))] rfl ?_
          refine aw_aload_n (i := 0) C (dec D_Mod_mount_1 rfl) rfl rfl ?_
          refine aw_cv C ci_Mod_143 [] (c_Mod_hold _ _ _ _ _ _ L (mMtN_L hI)) (dec D_Mod_mount_1 rfl) rcM rfl (fpW Fw) (Nat.le_of_ble_eq_true rfl) (by decide) ⟨by decide, by decide⟩ (fun v w2 hp => ?_) (fun _ _ h => by cases h.1)
          obtain ⟨hv, rfl⟩ := hp
          cases hv
          refine aw_aload_n (i := 0) C (dec D_Mod_mount_1 rfl) rfl rfl ?_
          refine aw_iconst (v := 1) C (dec D_Mod_mount_1 rfl) (by decide) ?_
          refine pf_Mod_77 C Fw bz1 (dec D_Mod_mount_2 rfl) ?_
          refine aw_iconst (v := 1) C (dec D_Mod_mount_2 rfl) (by decide) ?_
          refine aw_ret_i C r (dec D_Mod_mount_2 rfl) rfl (by decide) (by decide) ?_
          exact ⟨rfl, rfl⟩
        · try simp only [mI_I, mL_I, mA_I, mJ_I, mI_L, mL_L, mA_L, mJ_L, mI_A, mL_A, mA_A, mJ_A, mI_J, mL_J, mA_J, mJ_J, cI_I, cL_I, cA_I, cJ_I, cR_I, cN_I, cI_L, cL_L, cA_L, cJ_L, cR_L, cN_L, cI_A, cL_A, cA_A, cJ_A, cR_A, cN_A, cI_J, cL_J, cA_J, cJ_J, cR_J, cN_J, cI_R, cL_R, cA_R, cJ_R, cR_R, cN_R, cI_N, cL_N, cA_N, cJ_N, cR_N, cN_N, ↓reduceIte, Nat.reduceEqDiff, upd_at, updL_at] at hb
          have htf : f < 8 := ix_lt (N := 8) hb
          have hf := hI f htf
          have hpg := pg_le hf.2.1
          have e10 : mA (mMtN m6 L ch f) 10 = mA m6 10 := mMtN_A _ _ _ (by decide) (by decide) (by decide) f
          have e91 : mMtN m6 L ch (f + 1) = mMtC (mS (mS (mMtN m6 L ch f) 3 f (mGetB m6 (1 + 7 * f) 4)) 4 f (nI (L f))) ch f (pg (L f)) := rfl
          have k92 := ih (f + 1) (by omega) (by omega)
          rw [e91] at k92
          generalize mMtN m6 L ch f = mb at e10 k92 ⊢
          refine aw_aload_n (i := 0) C (dec D_Mod_mount_1 rfl) rfl rfl ?_
          refine gf_Mod_25 C (dec D_Mod_mount_1 rfl) ?_
          refine aw_iload C (dec D_Mod_mount_1 rfl) rfl ?_
          refine aw_aload_n (i := 0) C (dec D_Mod_mount_1 rfl) rfl rfl ?_
          refine aw_iconst (v := 1) C (dec D_Mod_mount_1 rfl) (by decide) ?_
          refine aw_bipush (v := 7) C (dec D_Mod_mount_1 rfl) (by decide) ?_
          refine aw_iload C (dec D_Mod_mount_1 rfl) rfl ?_
          refine aw_imul C (dec D_Mod_mount_1 rfl) ?_
          refine aw_iadd C (dec D_Mod_mount_1 rfl) ?_
          rw [show (1 : Int32) = nI 1 from rfl, nI_k7]
          refine aw_iconst (v := 4) C (dec D_Mod_mount_1 rfl) (by decide) ?_
          refine aw_cv C ci_Mod_149 [_, _] (c_Mod_getBytes _ _ _ _ _ _ (1 + 7 * f) 4 (by omega)) (dec D_Mod_mount_1 rfl) rcM rfl fpP (Nat.le_of_ble_eq_true rfl) (by decide) ⟨by decide, by decide⟩ (fun v w2 hp => ?_) (fun _ _ h => by cases h.1)
          obtain ⟨hv, rfl⟩ := hp
          cases hv
          rw [mGetB_of e10]
          refine as_M3 C Fw f (dec D_Mod_mount_1 rfl) (ix_of htf) ?_
          have k211 : ∀ v, v = nI (L f) → AW E false 0 0 (wld (eG E) a c (mS mb 3 f (mGetB m6 (1 + 7 * f) 4)) o) 211 [(0, .ref (a 30 0)), (1, .int x1), (2, .int x2), (3, .int x3), (4, .int x4), (5, .int (nI f))] [.int v, .int (nI f), .ref (a 34 0)] := by
            intro v hv; subst hv
            refine as_M4 C Fw f (dec D_Mod_mount_1 rfl) (ix_of htf) ?_
            refine aw_aload_n (i := 0) C (dec D_Mod_mount_1 rfl) rfl rfl ?_
            refine gf_Mod_47 C (dec D_Mod_mount_1 rfl) ?_
            show AW E _ _ _ _ 216 _ _
            refine aw_iconst (v := 5) C (dec D_Mod_mount_1 rfl) (by decide) ?_
            refine aw_bipush (v := 7) C (dec D_Mod_mount_1 rfl) (by decide) ?_
            refine aw_iload C (dec D_Mod_mount_1 rfl) rfl ?_
            refine aw_imul C (dec D_Mod_mount_1 rfl) ?_
            refine aw_iadd C (dec D_Mod_mount_1 rfl) ?_
            rw [show (5 : Int32) = nI 5 from rfl, nI_k7]
            refine al_M10 C (5 + 7 * f) (dec D_Mod_mount_1 rfl) (ix_of (by omega)) ?_
            refine aw_istore C (dec D_Mod_mount_1 rfl) (by decide) ?_
            refine aw_iconst (v := 0) C (dec D_Mod_mount_1 rfl) (by decide) ?_
            refine aw_istore C (dec D_Mod_mount_1 rfl) (by decide) ?_
            refine AW.ls [(0, .ref (a 30 0)), (1, .int x1), (2, .int x2), (3, .int x3), (4, .int x4), (5, .int (nI f)), (6, .int (mA mb 10 (5 + 7 * f))), (7, .int (nI 0))] rfl ?_
            have k93 : wld (eG E) a c (smA (mS mb 3 f (mGetB m6 (1 + 7 * f) 4)) 4 (upd (mA (mS mb 3 f (mGetB m6 (1 + 7 * f) 4)) 4) f (nI (L f)))) o = wld (eG E) a c (mMtC (mS (mS mb 3 f (mGetB m6 (1 + 7 * f) 4)) 4 f (nI (L f))) ch f 0) o := rfl
            refine AW.wd k93 ?_
            clear k93
            have e4 : mA (mS (mS mb 3 f (mGetB m6 (1 + 7 * f) 4)) 4 f (nI (L f))) 4 f = nI (L f) := by rw [mS, mA_A, if_pos rfl, upd_at, if_pos rfl]
            have e11 : mA (mS (mS mb 3 f (mGetB m6 (1 + 7 * f) 4)) 4 f (nI (L f))) 10 = mA m6 10 := e10
            rw [e10]
            generalize mS (mS mb 3 f (mGetB m6 (1 + 7 * f) 4)) 4 f (nI (L f)) = mc at e4 e11 k92 ⊢
            have lp4 : ∀ (n2 i : Nat) (pz : Int32), (pg (L f)) - i < n2 → i ≤ (pg (L f)) → (i < pg (L f) → pz = nI (ch f i)) → AW E false 0 0 (wld (eG E) a c (mMtC mc ch f i) o) 229 [(0, .ref (a 30 0)), (1, .int x1), (2, .int x2), (3, .int x3), (4, .int x4), (5, .int (nI f)), (6, .int pz), (7, .int (nI i))] [] := by
              intro n2
              induction n2 with
              | zero => intro i pz h1 h2 hp; omega
              | succ n2 ih2 =>
                intro i pz h1i h2i hp
                refine aw_iload C (dec D_Mod_mount_1 rfl) rfl ?_
                refine aw_aload_n (i := 0) C (dec D_Mod_mount_1 rfl) rfl rfl ?_
                refine aw_iload C (dec D_Mod_mount_1 rfl) rfl ?_
                have eLi : mA (mMtC mc ch f i) 4 f = nI (L f) := by rw [mMtC_A _ _ _ (by decide)]; exact e4
                refine aw_cv C ci_Mod_122 [_] (c_Mod_pages _ _ _ _ _ _ f htf) (dec D_Mod_mount_1 rfl) rcM rfl fpP (Nat.le_of_ble_eq_true rfl) (by decide) ⟨by decide, by decide⟩ (fun v w2 hp => ?_) (fun _ _ h => by cases h.1)
                obtain ⟨hv, rfl⟩ := hp
                cases hv
                rw [pgE eLi hf.2.1]
                refine aw_icmp_ge (tgt := 273) C (dec D_Mod_mount_1 rfl) (by decide) (fun hb4 => ?_) (fun hb4 => ?_)
                · try simp only [mI_I, mL_I, mA_I, mJ_I, mI_L, mL_L, mA_L, mJ_L, mI_A, mL_A, mA_A, mJ_A, mI_J, mL_J, mA_J, mJ_J, cI_I, cL_I, cA_I, cJ_I, cR_I, cN_I, cI_L, cL_L, cA_L, cJ_L, cR_L, cN_L, cI_A, cL_A, cA_A, cJ_A, cR_A, cN_A, cI_J, cL_J, cA_J, cJ_J, cR_J, cN_J, cI_R, cL_R, cA_R, cJ_R, cR_R, cN_R, cI_N, cL_N, cA_N, cJ_N, cR_N, cN_N, ↓reduceIte, Nat.reduceEqDiff, upd_at, updL_at] at hb4
                  have e9 : i = (pg (L f)) := by have := ix_ge (N := (pg (L f))) hb4; omega
                  subst e9
                  refine AW.ls [(0, .ref (a 30 0)), (1, .int x1), (2, .int x2), (3, .int x3), (4, .int x4), (5, .int (nI f))] rfl ?_
                  refine aw_iinc C (dec D_Mod_mount_1 rfl) rfl (nI_inc f) (by decide) ?_
                  refine aw_goto (tgt := 152) C (dec D_Mod_mount_1 rfl) (by decide) ?_
                  exact k92
                · try simp only [mI_I, mL_I, mA_I, mJ_I, mI_L, mL_L, mA_L, mJ_L, mI_A, mL_A, mA_A, mJ_A, mI_J, mL_J, mA_J, mJ_J, cI_I, cL_I, cA_I, cJ_I, cR_I, cN_I, cI_L, cL_L, cA_L, cJ_L, cR_L, cN_L, cI_A, cL_A, cA_A, cJ_A, cR_A, cN_A, cI_J, cL_J, cA_J, cJ_J, cR_J, cN_J, cI_R, cL_R, cA_R, cJ_R, cR_R, cN_R, cI_N, cL_N, cA_N, cJ_N, cR_N, cN_N, ↓reduceIte, Nat.reduceEqDiff, upd_at, updL_at] at hb4
                  have hti : i < (pg (L f)) := ix_lt (N := (pg (L f))) hb4
                  obtain rfl := hp hti
                  have hci := hf.2.2.1 i hti
                  refine aw_aload_n (i := 0) C (dec D_Mod_mount_1 rfl) rfl rfl ?_
                  refine gf_Mod_32 C (dec D_Mod_mount_1 rfl) ?_
                  refine aw_bipush (v := 64) C (dec D_Mod_mount_1 rfl) (by decide) ?_
                  refine aw_iload C (dec D_Mod_mount_1 rfl) rfl ?_
                  refine aw_imul C (dec D_Mod_mount_1 rfl) ?_
                  refine aw_iload C (dec D_Mod_mount_1 rfl) rfl ?_
                  refine aw_iadd C (dec D_Mod_mount_1 rfl) ?_
                  refine aw_iload C (dec D_Mod_mount_1 rfl) rfl ?_
                  refine as_M5 C Fw (64 * f + i) (dec D_Mod_mount_1 rfl) (ix_eq (nI_ch f i) (by omega)) ?_
                  refine aw_aload_n (i := 0) C (dec D_Mod_mount_1 rfl) rfl rfl ?_
                  show AW E _ _ _ _ 256 _ _
                  refine gf_Mod_47 C (dec D_Mod_mount_1 rfl) ?_
                  refine aw_bipush (v := 57) C (dec D_Mod_mount_1 rfl) (by decide) ?_
                  refine aw_iload C (dec D_Mod_mount_1 rfl) rfl ?_
                  refine aw_iadd C (dec D_Mod_mount_1 rfl) ?_
                  rw [nI_57]
                  refine al_M10 C (57 + ch f i) (dec D_Mod_mount_1 rfl) (ix_of (by omega)) ?_
                  refine aw_istore C (dec D_Mod_mount_1 rfl) (by decide) ?_
                  refine aw_iinc C (dec D_Mod_mount_1 rfl) rfl (nI_inc i) (by decide) ?_
                  refine aw_goto (tgt := 229) C (dec D_Mod_mount_1 rfl) (by decide) ?_
                  refine AW.ls [(0, .ref (a 30 0)), (1, .int x1), (2, .int x2), (3, .int x3), (4, .int x4), (5, .int (nI f)), (6, .int (mA (mMtC mc ch f i) 10 (57 + ch f i))), (7, .int (nI (i + 1)))] rfl ?_
                  exact ih2 (i + 1) _ (by omega) (by omega) (fun z => by rw [mMtC_A _ _ _ (by decide), e11]; exact hf.2.2.2.2 i z)
            exact lp4 (pg (L f) + 1) 0 _ (by omega) (by omega) (fun z => hf.2.2.2.1 z)
          refine aw_aload_n (i := 0) C (dec D_Mod_mount_1 rfl) rfl rfl ?_
          refine gf_Mod_29 C (dec D_Mod_mount_1 rfl) ?_
          refine aw_iload C (dec D_Mod_mount_1 rfl) rfl ?_
          refine aw_aload_n (i := 0) C (dec D_Mod_mount_1 rfl) rfl rfl ?_
          refine gf_Mod_25 C (dec D_Mod_mount_1 rfl) ?_
          refine aw_iload C (dec D_Mod_mount_1 rfl) rfl ?_
          refine al_M3 C f (dec D_Mod_mount_1 rfl) (ix_of htf) ?_
          have e12 : mA (mS mb 3 f (mGetB m6 (1 + 7 * f) 4)) 3 f = mGetB m6 (1 + 7 * f) 4 := by rw [mS, mA_A, if_pos rfl, upd_at, if_pos rfl]
          refine aw_if_ne (tgt := 198) C (dec D_Mod_mount_1 rfl) (by decide) (fun h191 => ?_) (fun h191 => ?_)
          · refine aw_aload_n (i := 0) C (dec D_Mod_mount_1 rfl) rfl rfl ?_
            refine aw_bipush (v := 6) C (dec D_Mod_mount_1 rfl) (by decide) ?_
            refine aw_bipush (v := 7) C (dec D_Mod_mount_1 rfl) (by decide) ?_
            refine aw_iload C (dec D_Mod_mount_1 rfl) rfl ?_
            refine aw_imul C (dec D_Mod_mount_1 rfl) ?_
            refine aw_iadd C (dec D_Mod_mount_1 rfl) ?_
            rw [show (6 : Int32) = nI 6 from rfl, nI_k7]
            refine aw_iconst (v := 2) C (dec D_Mod_mount_1 rfl) (by decide) ?_
            refine aw_cv C ci_Mod_149 [_, _] (c_Mod_getBytes _ _ _ _ _ _ (6 + 7 * f) 2 (by omega)) (dec D_Mod_mount_1 rfl) rcM rfl fpP (Nat.le_of_ble_eq_true rfl) (by decide) ⟨by decide, by decide⟩ (fun v w2 hp => ?_) (fun _ _ h => by cases h.1)
            obtain ⟨hv, rfl⟩ := hp
            cases hv
            exact k211 _ (by have z := hf.1; rw [if_neg (e12 ▸ h191)] at z; rw [← z]; exact mGetB_of (show mA (smA mb 3 (upd (mA mb 3) f (mGetB m6 (1 + 7 * f) 4))) 10 = mA m6 10 from e10) _ _)
          · refine aw_iconst (v := 0) C (dec D_Mod_mount_1 rfl) (by decide) ?_
            refine aw_goto (tgt := 211) C (dec D_Mod_mount_1 rfl) (by decide) ?_
            exact k211 _ (by have z := hf.1; rw [if_pos (e12 ▸ h191)] at z; exact z)
    show AW E _ _ _ _ 149 _ _
    refine aw_iconst (v := 0) C (dec D_Mod_mount_1 rfl) (by decide) ?_
    refine aw_istore C (dec D_Mod_mount_1 rfl) (by decide) ?_
    exact lp3 9 0 (by omega) (by omega)
  have k47 : ¬ mI m 1 = 0 → AW E false 0 0 (wld (eG E) a c (mTurns (mMt0 m) 40) o) 47 [(0, .ref (a 30 0))] [] := by
    intro hmp
    refine aw_aload_n (i := 0) C (dec D_Mod_mount rfl) rfl rfl ?_
    refine aw_iconst (v := 1) C (dec D_Mod_mount rfl) (by decide) ?_
    refine aw_cv C ci_Mod_153 [_] (c_Mod_loadImage _ _ _ _ _ _ 1 (by omega)) (dec D_Mod_mount rfl) rcM rfl (fpW Fw) (Nat.le_of_ble_eq_true rfl) (by decide) ⟨by decide, by decide⟩ (fun v w2 hp => ?_) (fun _ _ h => by cases h.1)
    obtain ⟨hv, rfl⟩ := hp
    cases hv
    have em2 : mMt2 m = mLoadN (mTurns (mMt0 m) 40) 1 20 := rfl
    rw [← em2]
    refine aw_aload_n (i := 0) C (dec D_Mod_mount rfl) rfl rfl ?_
    refine aw_cv C ci_Mod_156 [] (c_Mod_isValid _ _ _ _ _ _) (dec D_Mod_mount rfl) rcM rfl fpP (Nat.le_of_ble_eq_true rfl) (by decide) ⟨by decide, by decide⟩ (fun v w2 hp => ?_) (fun _ _ h => by cases h.1)
    obtain ⟨hv, rfl⟩ := hp
    cases hv
    refine aw_istore_n (i := 1) C (dec D_Mod_mount rfl) rfl (by decide) ?_
    refine aw_aload_n (i := 0) C (dec D_Mod_mount rfl) rfl rfl ?_
    refine gf_Mod_47 C (dec D_Mod_mount rfl) ?_
    refine aw_iconst (v := 0) C (dec D_Mod_mount rfl) (by decide) ?_
    refine al_M10 C 0 (dec D_Mod_mount rfl) (ix_eq (t := 0) rfl (by decide)) ?_
    refine aw_istore_n (i := 2) C (dec D_Mod_mount rfl) rfl (by decide) ?_
    refine aw_aload_n (i := 0) C (dec D_Mod_mount rfl) rfl rfl ?_
    refine aw_iconst (v := 0) C (dec D_Mod_mount rfl) (by decide) ?_
    refine aw_cv C ci_Mod_153 [_] (c_Mod_loadImage _ _ _ _ _ _ 0 (by omega)) (dec D_Mod_mount rfl) rcM rfl (fpW Fw) (Nat.le_of_ble_eq_true rfl) (by decide) ⟨by decide, by decide⟩ (fun v w2 hp => ?_) (fun _ _ h => by cases h.1)
    obtain ⟨hv, rfl⟩ := hp
    cases hv
    have em3 : mMt3 m = mLoadN (mMt2 m) 0 20 := rfl
    rw [← em3]
    refine aw_aload_n (i := 0) C (dec D_Mod_mount rfl) rfl rfl ?_
    refine aw_cv C ci_Mod_156 [] (c_Mod_isValid _ _ _ _ _ _) (dec D_Mod_mount rfl) rcM rfl fpP (Nat.le_of_ble_eq_true rfl) (by decide) ⟨by decide, by decide⟩ (fun v w2 hp => ?_) (fun _ _ h => by cases h.1)
    obtain ⟨hv, rfl⟩ := hp
    cases hv
    refine aw_istore_n (i := 3) C (dec D_Mod_mount rfl) rfl (by decide) ?_
    refine AW.ls [(0, .ref (a 30 0)), (1, .int (mValid (mMt2 m))), (2, .int (mA (mMt2 m) 10 0)), (3, .int (mValid (mMt3 m)))] rfl ?_
    have k84 : ¬ (mValid (mMt3 m) = 0 ∧ mValid (mMt2 m) = 0) → AW E false 0 0 (wld (eG E) a c (mMt3 m) o) 84 [(0, .ref (a 30 0)), (1, .int (mValid (mMt2 m))), (2, .int (mA (mMt2 m) 10 0)), (3, .int (mValid (mMt3 m)))] [] := by
      intro hv
      have k128 : ∀ v, v = nI (mCur m) → AW E false 0 0 (wld (eG E) a c (mMt3 m) o) 128 [(0, .ref (a 30 0)), (1, .int (mValid (mMt2 m))), (2, .int (mA (mMt2 m) 10 0)), (3, .int (mValid (mMt3 m))), (4, .int (mAhead m))] [.int v, .ref (a 30 0)] := by
        intro v hv2; subst hv2
        refine pf_Mod_110 C Fw (dec D_Mod_mount rfl) ?_
        refine aw_aload_n (i := 0) C (dec D_Mod_mount rfl) rfl rfl ?_
        refine aw_aload_n (i := 0) C (dec D_Mod_mount rfl) rfl rfl ?_
        refine gf_Mod_110 C (dec D_Mod_mount rfl) ?_
        refine aw_cv C ci_Mod_153 [_] (c_Mod_loadImage _ _ _ _ _ _ (mCur m) (mCur_2 m)) (dec D_Mod_mount rfl) rcM rfl (fpW Fw) (Nat.le_of_ble_eq_true rfl) (by decide) ⟨by decide, by decide⟩ (fun v w2 hp => ?_) (fun _ _ h => by cases h.1)
        obtain ⟨hv, rfl⟩ := hp
        cases hv
        have em5 : mMt5 m = mLoadN (smI (mMt3 m) 6 (nI (mCur m))) (mCur m) 20 := rfl
        rw [← em5]
        refine aw_aload_n (i := 0) C (dec D_Mod_mount rfl) rfl rfl ?_
        show AW E _ _ _ _ 140 _ _
        refine aw_aload_n (i := 0) C (dec D_Mod_mount rfl) rfl rfl ?_
        refine gf_Mod_47 C (dec D_Mod_mount_1 rfl) ?_
        refine aw_iconst (v := 0) C (dec D_Mod_mount_1 rfl) (by decide) ?_
        refine al_M10 C 0 (dec D_Mod_mount_1 rfl) (ix_eq (t := 0) rfl (by decide)) ?_
        refine pf_Mod_113 C Fw (dec D_Mod_mount_1 rfl) ?_
        exact k149 hmp hv _ _ _ _
      refine aw_iload_n (i := 2) C (dec D_Mod_mount rfl) rfl rfl ?_
      refine aw_aload_n (i := 0) C (dec D_Mod_mount rfl) rfl rfl ?_
      refine gf_Mod_47 C (dec D_Mod_mount rfl) ?_
      refine aw_iconst (v := 0) C (dec D_Mod_mount rfl) (by decide) ?_
      refine al_M10 C 0 (dec D_Mod_mount rfl) (ix_eq (t := 0) rfl (by decide)) ?_
      refine aw_isub C (dec D_Mod_mount rfl) ?_
      refine aw_sipush (v := 256) C (dec D_Mod_mount rfl) (by decide) ?_
      refine aw_iadd C (dec D_Mod_mount rfl) ?_
      refine aw_sipush (v := 256) C (dec D_Mod_mount rfl) (by decide) ?_
      refine aw_irem C (dec D_Mod_mount rfl) (by decide) ?_
      refine aw_istore C (dec D_Mod_mount rfl) (by decide) ?_
      refine AW.ls [(0, .ref (a 30 0)), (1, .int (mValid (mMt2 m))), (2, .int (mA (mMt2 m) 10 0)), (3, .int (mValid (mMt3 m))), (4, .int (mAhead m))] rfl ?_
      refine aw_aload_n (i := 0) C (dec D_Mod_mount rfl) rfl rfl ?_
      refine aw_iload_n (i := 3) C (dec D_Mod_mount rfl) rfl rfl ?_
      refine aw_if_eq (tgt := 127) C (dec D_Mod_mount rfl) (by decide) (fun h104 => ?_) (fun h104 => ?_)
      · refine aw_iconst (v := 1) C (dec D_Mod_mount rfl) (by decide) ?_
        exact k128 _ (by simp [mCur, h104]; try rfl)
      · refine aw_iload_n (i := 1) C (dec D_Mod_mount rfl) rfl rfl ?_
        refine aw_if_eq (tgt := 123) C (dec D_Mod_mount rfl) (by decide) (fun h108 => ?_) (fun h108 => ?_)
        · refine aw_iconst (v := 0) C (dec D_Mod_mount rfl) (by decide) ?_
          refine aw_goto (tgt := 128) C (dec D_Mod_mount rfl) (by decide) ?_
          exact k128 _ (by simp [mCur, h104, h108]; try rfl)
        · refine aw_iload C (dec D_Mod_mount rfl) rfl ?_
          refine aw_if_eq (tgt := 123) C (dec D_Mod_mount rfl) (by decide) (fun h113 => ?_) (fun h113 => ?_)
          · refine aw_iconst (v := 0) C (dec D_Mod_mount rfl) (by decide) ?_
            refine aw_goto (tgt := 128) C (dec D_Mod_mount rfl) (by decide) ?_
            exact k128 _ (by simp [mCur, h104, h108, h113]; try rfl)
          · show AW E _ _ _ _ 116 _ _
            refine aw_iload C (dec D_Mod_mount rfl) rfl ?_
            refine aw_bipush (v := 127) C (dec D_Mod_mount rfl) (by decide) ?_
            refine aw_icmp_le (tgt := 127) C (dec D_Mod_mount rfl) (by decide) (fun h120 => ?_) (fun h120 => ?_)
            · refine aw_iconst (v := 1) C (dec D_Mod_mount rfl) (by decide) ?_
              exact k128 _ (by simp [mCur, h104, h108, h113, h120]; try rfl)
            · refine aw_iconst (v := 0) C (dec D_Mod_mount rfl) (by decide) ?_
              refine aw_goto (tgt := 128) C (dec D_Mod_mount rfl) (by decide) ?_
              exact k128 _ (by simp [mCur, h104, h108, h113, h120]; try rfl)
    refine aw_iload_n (i := 3) C (dec D_Mod_mount rfl) rfl rfl ?_
    refine aw_if_ne (tgt := 84) C (dec D_Mod_mount rfl) (by decide) (fun h75 => ?_) (fun h75 => ?_)
    · exact k84 (fun z => h75 z.1)
    · refine aw_iload_n (i := 1) C (dec D_Mod_mount rfl) rfl rfl ?_
      refine aw_if_ne (tgt := 84) C (dec D_Mod_mount rfl) (by decide) (fun h79 => ?_) (fun h79 => ?_)
      · exact k84 (fun z => h79 z.2)
      · refine aw_iconst (v := 0) C (dec D_Mod_mount rfl) (by decide) ?_
        refine aw_ret_i C r (dec D_Mod_mount rfl) rfl (by decide) (by decide) ?_
        exact ⟨by rw [mMountR, if_neg hmp, if_pos ⟨h75, h79⟩], by rw [mMount, if_neg hmp, if_pos ⟨h75, h79⟩]⟩
  have lp1 : ¬ mI m 1 = 0 → ∀ (n t : Nat) , 40 - t < n → t ≤ 40 → AW E false 0 0 (wld (eG E) a c (mTurns (mMt0 m) t) o) 30 [(0, .ref (a 30 0)), (1, .int (nI t))] [] := by
    intro hmp n
    induction n with
    | zero => intro t  h1 h2; omega
    | succ n ih =>
      intro t  h1t h2t
      refine aw_iload_n (i := 1) C (dec D_Mod_mount rfl) rfl rfl ?_
      refine aw_bipush (v := 40) C (dec D_Mod_mount rfl) (by decide) ?_
      refine aw_icmp_ge (tgt := 47) C (dec D_Mod_mount rfl) (by decide) (fun hb => ?_) (fun hb => ?_)
      · have e9 : t = 40 := by have := ix_ge (N := 40) hb; omega
        subst e9
        refine AW.ls [(0, .ref (a 30 0))] rfl ?_
        exact k47 hmp
      · have htt : t < 40 := ix_lt (N := 40) hb
        refine aw_aload_n (i := 0) C (dec D_Mod_mount rfl) rfl rfl ?_
        refine aw_iload_n (i := 1) C (dec D_Mod_mount rfl) rfl rfl ?_
        refine aw_cv C ci_Mod_91 [_] (c_Mod_turnTo _ _ _ _ _ _ _) (dec D_Mod_mount rfl) rcM rfl (fpW Fw) (Nat.le_of_ble_eq_true rfl) (by decide) ⟨by decide, by decide⟩ (fun v w2 hp => ?_) (fun _ _ h => by cases h.1)
        obtain ⟨hv, rfl⟩ := hp
        cases hv
        refine aw_iinc C (dec D_Mod_mount rfl) rfl (nI_inc t) (by decide) ?_
        refine aw_goto (tgt := 30) C (dec D_Mod_mount rfl) (by decide) ?_
        exact ih (t + 1) (by omega) (by omega)
  refine aw_aload_n (i := 0) C (dec D_Mod_mount rfl) rfl rfl ?_
  refine aw_iconst (v := 0) C (dec D_Mod_mount rfl) (by decide) ?_
  refine pf_Mod_71 C Fw (dec D_Mod_mount rfl) ?_
  refine aw_aload_n (i := 0) C (dec D_Mod_mount rfl) rfl rfl ?_
  refine aw_iconst (v := 1) C (dec D_Mod_mount rfl) (by decide) ?_
  refine pf_Mod_21 C Fw bz1 (dec D_Mod_mount rfl) ?_
  refine aw_aload_n (i := 0) C (dec D_Mod_mount rfl) rfl rfl ?_
  refine aw_iconst (v := (-1)) C (dec D_Mod_mount rfl) (by decide) ?_
  refine pf_Mod_17 C Fw (dec D_Mod_mount rfl) ?_
  show AW E _ _ _ _ 15 _ _
  refine aw_aload_n (i := 0) C (dec D_Mod_mount rfl) rfl rfl ?_
  refine aw_cv C ci_Mod_68 [] (c_Mod_forget _ _ _ _ _ _) (dec D_Mod_mount rfl) rcM rfl (fpW Fw) (Nat.le_of_ble_eq_true rfl) (by decide) ⟨by decide, by decide⟩ (fun v w2 hp => ?_) (fun _ _ h => by cases h.1)
  obtain ⟨hv, rfl⟩ := hp
  cases hv
  have em0 : mMt0 m = mForget (smI (smI (smI m 0 0) 4 1) 3 (-1)) := rfl
  rw [← em0]
  have em1 : mI (mMt0 m) 1 = mI m 1 := by rw [mMt0, mForget_I]; rfl
  refine aw_aload_n (i := 0) C (dec D_Mod_mount rfl) rfl rfl ?_
  refine gf_Mod_74 C (dec D_Mod_mount rfl) ?_
  refine aw_if_ne (tgt := 28) C (dec D_Mod_mount rfl) (by decide) (fun h23 => ?_) (fun h23 => ?_)
  · refine aw_iconst (v := 0) C (dec D_Mod_mount rfl) (by decide) ?_
    refine aw_istore_n (i := 1) C (dec D_Mod_mount rfl) rfl (by decide) ?_
    exact lp1 (em1 ▸ h23) 41 0 (by omega) (by omega)
  · refine aw_iconst (v := 0) C (dec D_Mod_mount rfl) (by decide) ?_
    refine aw_ret_i C r (dec D_Mod_mount rfl) rfl (by decide) (by decide) ?_
    exact ⟨by rw [mMountR, if_pos (em1 ▸ h23)], by rw [mMount, if_pos (em1 ▸ h23)]⟩
