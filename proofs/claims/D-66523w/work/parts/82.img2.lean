/-! windows load; images are packed, written, read; printed by tools/m82.py -/
theorem Out.ret {g : MM} {v v0 : Option Value} (h : Out g (.inl v) v0) : v = v0 ∧ ¬ mI g 4 = 0 := by
  rcases h with ⟨h, k⟩ | ⟨h, -⟩
  · cases h; exact ⟨rfl, k⟩
  · cases h
theorem Out.thr {g : MM} {n : Nat} {v0 : Option Value} (h : Out g (.inr n) v0) : n = 0 ∧ mI g 4 = 0 := by
  rcases h with ⟨h, -⟩ | ⟨h, k⟩
  · cases h
  · cases h; exact ⟨rfl, k⟩
theorem RW.load {c1 c2 : CC} {g1 g2 : MM} {j f p : Nat} {v : Int64} (h : RW c1 g1 j f) (h8 : mA g1 8 f = 0) (t : Tr c1 c2) (u : Tm g1 g2) : RW (sI (sL c2 1 j v) 13 j (nI p)) (mS (mSJ g2 7 f v) 6 f (nI p)) j f := by
  obtain ⟨a1, a2, a3, a4, a5⟩ := h
  have z8 : mA (mS (mSJ g2 7 f v) 6 f (nI p)) 8 f = mA g1 8 f := by rw [mS, mA_A, if_neg (by decide)]; show mA g2 8 f = _; rw [u.1]
  have z6 : mA (mS (mSJ g2 7 f v) 6 f (nI p)) 6 f = nI p := by rw [mS, mA_A, if_pos rfl, upd_at, if_pos rfl]
  refine ⟨?_, ?_, by rw [z8]; exact a3, fun _ => ?_, fun z => absurd (z8.trans h8) z⟩
  · rw [cI_I, if_pos rfl, if_pos rfl, z6]
  · rw [cI_I, if_neg (by decide), z8]; show cI c2 14 j = _; rw [t.2.2.2.1 14 (by decide) (by decide) (by decide)]; exact a2
  · show cL (sL c2 1 j v) 1 j = mJ (mSJ g2 7 f v) 7 f
    rw [cL_L, if_pos rfl, if_pos rfl, mSJ, mJ_J, if_pos rfl, updL_at, if_pos rfl]
theorem mLoad_eq {g : MM} {f p : Nat} (h : mA g 6 f = nI p) : mLoad g f p = g := by unfold mLoad; rw [if_pos h]
theorem mLoad_ne {g : MM} {f p : Nat} (h : ¬ mA g 6 f = nI p) : mLoad g f p = mS (mSJ (mRead (mSave g f) p) 7 f (mReadR (mSave g f) p)) 6 f (nI p) := by unfold mLoad; rw [if_neg h]
theorem c_Win_loadS (l : Launch) (G : GG) (a : AD) (c : CC) (m : MM) (o : OO) (j f p : Nat) (lp : Nat → Nat) (g : MM) (hj : j < cN c 17 0) (hp1 : p < 101) (h : R0 c lp g) (hon : ¬ mI g 4 = 0) (hmp : mI g 1 = 1) (hW : RW c g j f) : CT l G y_Win_load (.code y_Win_load b_Win_load 3 none) 10 2 12 (Fyes G) (wld G a c m o) [.ref (a 18 j), .ref (a 2 0), .int (nI p)] (fun r w2 => ∃ c1, TW j c c1 ∧ R0 c1 lp (mLoad g f p) ∧ (¬ mI (mLoad g f p) 4 = 0 → RW c1 (mLoad g f p) j f ∧ cI c1 13 j = nI p) ∧ Out (mLoad g f p) r none ∧ w2 = wld G a c1 m o) := by
  refine CT.of (by decide) (Nat.le_of_ble_eq_true rfl) rfl ?_
  intro E hl hG hF C r hw hex hnm
  subst hl; subst hG
  have Fw : Cw E := fun a h => by rw [hF]; exact h
  refine aw_aload_n (i := 0) C (dec D_Win_load rfl) rfl rfl ?_
  refine gf_Win_9 C hj (dec D_Win_load rfl) ?_
  refine aw_iload_n (i := 2) C (dec D_Win_load rfl) rfl rfl ?_
  refine aw_icmp_ne (tgt := 9) C (dec D_Win_load rfl) (by decide) (fun h5 => ?_) (fun h5 => ?_)
  · have e6 : ¬ mA g 6 f = nI p := fun z => h5 (hW.1.trans z)
    rw [mLoad_ne e6] at r
    refine aw_aload_n (i := 0) C (dec D_Win_load rfl) rfl rfl ?_
    refine aw_aload_n (i := 1) C (dec D_Win_load rfl) rfl rfl ?_
    refine aw_cv C ci_Win_29 [_] (s_save _ _ a c m o j f lp g hj h hon hmp hW) (dec D_Win_load rfl) (rcW hj) rfl (fpW Fw) (Nat.le_of_ble_eq_true rfl) (by decide) ⟨by decide, by decide⟩ (fun v w2 hp => ?_) (fun n w2 hp => by obtain ⟨c1, t1, r1, -, hv, rfl⟩ := hp; obtain ⟨rfl, off1⟩ := hv.thr; exact at_leave C r hex (by decide) (by decide) ⟨c1, t1, by rw [mRead_off off1]; exact r1.ofW (fun _ _ => rfl) rfl rfl rfl rfl rfl rfl rfl rfl rfl, fun z => absurd (show mI (mRead (mSave g f) p) 4 = 0 by rw [mRead_off off1]; exact off1) z, .inr ⟨rfl, show mI (mRead (mSave g f) p) 4 = 0 by rw [mRead_off off1]; exact off1⟩, rfl⟩)
    obtain ⟨c1, t1, r1, w1, hv, rfl⟩ := hp
    obtain ⟨hv, on1⟩ := hv.ret
    subst hv
    have w1 := w1 on1
    have hj1 : j < cN c1 17 0 := by rw [t1.2.2.1]; exact hj
    refine aw_aload_n (i := 0) C (dec D_Win_load rfl) rfl rfl ?_
    refine aw_aload_n (i := 1) C (dec D_Win_load rfl) rfl rfl ?_
    refine aw_iload_n (i := 2) C (dec D_Win_load rfl) rfl rfl ?_
    refine aw_cv C ci_Win_33 [_] (s_Ctl_read _ _ a c1 m o p lp (mSave g f) hp1 r1 on1 (by rw [mSave_I g f (by decide) (by decide) (by decide)]; exact hmp)) (dec D_Win_load rfl) rcT rfl (fpW Fw) (Nat.le_of_ble_eq_true rfl) (by decide) ⟨by decide, by decide⟩ (fun v w2 hp => ?_) (fun n w2 hp => by obtain ⟨c2, t2, r2, hv, rfl⟩ := hp; obtain ⟨rfl, off2⟩ := hv.thr; exact at_leave C r hex (by decide) (by decide) ⟨c2, t1.trans (t2.tw j), r2.ofW (fun _ _ => rfl) rfl rfl rfl rfl rfl rfl rfl rfl rfl, fun z => absurd off2 z, .inr ⟨rfl, off2⟩, rfl⟩)
    obtain ⟨c2, t2, r2, hv, rfl⟩ := hp
    obtain ⟨hv, on2⟩ := hv.ret
    subst hv
    have hj2 : j < cN c2 17 0 := by rw [t2.2.2.1]; exact hj1
    refine pf_Win_19 C Fw hj2 (dec D_Win_load rfl) ?_
    refine aw_aload_n (i := 0) C (dec D_Win_load rfl) rfl rfl ?_
    refine aw_iload_n (i := 2) C (dec D_Win_load rfl) rfl rfl ?_
    refine pf_Win_9 C Fw (by exact hj2) (dec D_Win_load rfl) ?_
    refine aw_ret_v C r (dec D_Win_load rfl) (by decide) (by decide) ?_
    refine ⟨_, ((t1.trans (t2.tw j)).trans (TW.l1 j c2 _)).trans (TW.s13 j _ _), r2.ofW (fun k hk => by funext i; rw [cI_I, if_neg (by omega)]; rfl) ?_ rfl rfl rfl rfl rfl rfl rfl rfl, fun _ => ⟨w1.load (by rw [mSave_8, if_pos rfl]) t2 (Tm.rd _ p), ?_⟩, .inl ⟨rfl, on2⟩, rfl⟩
    · funext i; show cL (sL c2 1 j _) 0 i = _; rw [cL_L, if_neg (by decide)]
    · rw [cI_I, if_pos rfl, if_pos rfl]
  · have e6 : mA g 6 f = nI p := hW.1.symm.trans h5
    rw [mLoad_eq e6] at r
    refine aw_ret_v C r (dec D_Win_load rfl) (by decide) (by decide) ?_
    exact ⟨c, (Tr.refl c).tw j, h, fun _ => ⟨hW, h5⟩, .inl ⟨rfl, hon⟩, rfl⟩
theorem c_Img_writeS (l : Launch) (G : GG) (a : AD) (c : CC) (m : MM) (o : OO) (i : Nat) (lp : Nat → Nat) (g : MM) (hi : i < 2) (h : R0 c lp g) (hon : ¬ mI g 4 = 0) (hmp : mI g 1 = 1) (hA : ∀ t, t < 160 → cA c 12 i t = mA g 10 t) : CT l G y_Img_write (.code y_Img_write b_Img_write 8 none) 9 20 120 (Fyes G) (wld G a c m o) [.ref (a 11 i), .ref (a 2 0), .int (nI i)] (fun r w2 => ∃ c1, Tr c c1 ∧ R0 c1 lp (mWrN g i 20) ∧ Out (mWrN g i 20) r none ∧ w2 = wld G a c1 m o) := by
  refine CT.of (by decide) (Nat.le_of_ble_eq_true rfl) rfl ?_
  intro E hl hG hF C r hw hex hnm
  subst hl; subst hG
  have Fw : Cw E := fun a h => by rw [hF]; exact h
  have lp_ : ∀ (n9 t : Nat) (c1 : CC), 20 - t < n9 → t ≤ 20 → Tr c c1 → R0 c1 lp (mWrN g i t) → ¬ mI (mWrN g i t) 4 = 0 → AW E false t (6 * t) (wld (eG E) a c1 m o) 2 [(0, .ref (a 11 i)), (1, .ref (a 2 0)), (2, .int (nI i)), (3, .int (nI (t + 1)))] [] := by
    intro n9
    induction n9 with
    | zero => intro t c1 h1 h2; omega
    | succ n9 ih =>
      intro t c1 h1t h2t t1 r1 on1
      refine aw_iload_n (i := 3) C (dec D_Img_write rfl) rfl rfl ?_
      refine aw_bipush (v := 20) C (dec D_Img_write rfl) (by decide) ?_
      refine aw_icmp_gt (tgt := 73) C (dec D_Img_write rfl) (by decide) (fun hb => ?_) (fun hb => ?_)
      · have e20 : t = 20 := by have := (nI_ltI (a := 20) (b := t + 1) (by omega) (by omega)).mp hb; omega
        subst e20
        refine aw_ret_v C r (dec D_Img_write rfl) (by decide) (by decide) ?_
        exact ⟨c1, t1, r1, .inl ⟨rfl, on1⟩, rfl⟩
      · have htt : t < 20 := by have := mt (nI_ltI (a := 20) (b := t + 1) (by omega) (by omega)).mpr hb; omega
        have hi1 : i < 2 := hi
        have hm : (t + 1) % 20 < 20 := Nat.mod_lt _ (by decide)
        generalize epp : (t + 1) % 20 = pp at hm
        refine aw_iload_n (i := 3) C (dec D_Img_write rfl) rfl rfl ?_
        refine aw_bipush (v := 20) C (dec D_Img_write rfl) (by decide) ?_
        refine aw_irem C (dec D_Img_write rfl) (by decide) ?_
        rw [show (20 : Int32) = nI 20 from rfl, pk_rem (by omega) (by omega) (by omega), epp]
        refine aw_istore C (dec D_Img_write rfl) (by decide) ?_
        refine aw_lconst (v := 0) C (dec D_Img_write rfl) (by decide) ?_
        refine aw_lstore C (dec D_Img_write rfl) (by decide) ?_
        refine aw_bipush (v := 7) C (dec D_Img_write rfl) (by decide) ?_
        refine aw_istore C (dec D_Img_write rfl) (by decide) ?_
        have lpd : ∀ (s : Nat) (x : Int64), s ≤ 8 → wdD (cA c 12 i) pp s x = wdD (cA c 12 i) pp 8 0 → AW E false t (6 * t) (wld (eG E) a c1 m o) 21 [(0, .ref (a 11 i)), (1, .ref (a 2 0)), (2, .int (nI i)), (3, .int (nI (t + 1))), (4, .int (nI pp)), (5, .long x), (7, .int (dj s))] [] := by
          intro s
          induction s with
          | zero =>
            intro x h2s hx
            refine aw_iload C (dec D_Img_write rfl) rfl ?_
            refine aw_if_lt (tgt := 54) C (dec D_Img_write rfl) (by decide) (fun hd => ?_) (fun hd => ?_)
            · refine aw_aload_n (i := 1) C (dec D_Img_write rfl) rfl rfl ?_
              refine aw_bipush (v := 20) C (dec D_Img_write rfl) (by decide) ?_
              refine aw_iload_n (i := 2) C (dec D_Img_write rfl) rfl rfl ?_
              refine aw_imul C (dec D_Img_write rfl) ?_
              refine aw_iload C (dec D_Img_write rfl) rfl ?_
              refine aw_iadd C (dec D_Img_write rfl) ?_
              rw [show (20 : Int32) = nI 20 from rfl, pk_mul, nI_add]
              refine aw_lload C (dec D_Img_write rfl) rfl ?_
              have ew : mWrN g i (t + 1) = mWrite (mWrN g i t) (20 * i + pp) x := by rw [mWrN, epp, mBits_wd, mWrN_A, ← wdD_cg 8 0 (fun s hs => hA _ (by omega)), ← hx]; rfl
              refine aw_cv C ci_Img_72 [_, _] (s_Ctl_write _ _ a c1 m o (20 * i + pp) x lp (mWrN g i t) (by omega) r1 on1 (by rw [mWrN_I g i (by decide) (by decide) (by decide)]; exact hmp)) (dec D_Img_write rfl) rcT rfl (fpW Fw) (Nat.le_of_ble_eq_true rfl) (by decide) ⟨by show t + 1 ≤ 20; omega, by show 6 * t + 6 ≤ 120; omega⟩ (fun v w2 hp => ?_) (fun n w2 hp => by obtain ⟨c2, t2, r2, hv, rfl⟩ := hp; obtain ⟨rfl, off2⟩ := hv.thr; rw [← ew] at r2 off2; exact at_leave C r hex (by omega) (by omega) ⟨c2, t1.trans t2, by rw [mWrN_end off2 (by omega)]; exact r2, .inr ⟨rfl, by rw [mWrN_end off2 (by omega)]; exact off2⟩, rfl⟩)
              obtain ⟨c2, t2, r2, hv, rfl⟩ := hp
              obtain ⟨hv, on2⟩ := hv.ret
              subst hv
              rw [← ew] at r2 on2
              refine aw_iinc C (dec D_Img_write rfl) rfl (nI_inc (t + 1)) (by decide) ?_
              refine aw_goto (tgt := 2) C (dec D_Img_write rfl) (by decide) ?_
              refine AW.ls [(0, .ref (a 11 i)), (1, .ref (a 2 0)), (2, .int (nI i)), (3, .int (nI (t + 1 + 1)))] rfl ?_
              exact AW.widen (by omega) (by omega) (ih (t + 1) c2 (by omega) (by omega) (t1.trans t2) r2 on2)
            · exact absurd (by decide) hd
          | succ s ihd =>
            intro x h2s hx
            rw [dj_s]
            refine aw_iload C (dec D_Img_write rfl) rfl ?_
            refine aw_if_lt (tgt := 54) C (dec D_Img_write rfl) (by decide) (fun hd => ?_) (fun hd => ?_)
            · exact absurd hd (nI_pos (by omega))
            · refine aw_lload C (dec D_Img_write rfl) rfl ?_
              refine aw_bipush (v := 8) C (dec D_Img_write rfl) (by decide) ?_
              refine aw_lshl C (dec D_Img_write rfl) ?_
              refine aw_aload_n (i := 0) C (dec D_Img_write rfl) rfl rfl ?_
              refine gf_Img_9 C hi (dec D_Img_write rfl) ?_
              refine aw_bipush (v := 8) C (dec D_Img_write rfl) (by decide) ?_
              refine aw_iload C (dec D_Img_write rfl) rfl ?_
              refine aw_imul C (dec D_Img_write rfl) ?_
              refine aw_iload C (dec D_Img_write rfl) rfl ?_
              refine aw_iadd C (dec D_Img_write rfl) ?_
              refine al_C12 C (by exact hi) (8 * pp + s) (dec D_Img_write rfl) (ix_eq (nI_8s _ s) (by omega)) ?_
              rw [t1.1]
              refine aw_i2l C (dec D_Img_write rfl) ?_
              refine aw_lor C (dec D_Img_write rfl) ?_
              refine aw_lstore C (dec D_Img_write rfl) (by decide) ?_
              refine aw_iinc C (dec D_Img_write rfl) rfl rfl (by decide) ?_
              refine aw_goto (tgt := 21) C (dec D_Img_write rfl) (by decide) ?_
              refine AW.ls [(0, .ref (a 11 i)), (1, .ref (a 2 0)), (2, .int (nI i)), (3, .int (nI (t + 1))), (4, .int (nI pp)), (5, .long ((x <<< ((8 : Int32).toInt64 &&& 63)) ||| (cA c 12 i (8 * pp + s)).toInt64)), (7, .int (dj s))] rfl ?_
              exact ihd _ (by omega) hx
        exact lpd 8 0 (by omega) rfl
  refine aw_iconst (v := 1) C (dec D_Img_write rfl) (by decide) ?_
  refine aw_istore_n (i := 3) C (dec D_Img_write rfl) rfl (by decide) ?_
  exact AW.impure (lp_ 21 0 c (by omega) (by omega) (Tr.refl c) h hon)
