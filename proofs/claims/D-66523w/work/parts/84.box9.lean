/-! the box: byteAt, truncate, remove, append; printed by tools/m84.py -/
theorem c_Box_byteAtS (l : Launch) (G : GG) (a : AD) (c : CC) (m : MM) (o : OO) (f j n i : Nat) (fo : Nat → Option Nat) (k : Nat → Nat) (lp : Nat → Nat) (g : MM) (hm : ¬ cMtd c = 0) (hF9 : FOk c fo) (hf : f < 8) (hfj : fo f = some j) (hl : cI c 12 j = nI n ∧ n ≤ 488) (hin : i < n) (h0 : cI c 11 j = nI (k 0)) (hk : ∀ t, t ≤ i / 8 → k t < 101) (hk2 : ∀ t, t < i / 8 → cA c 7 0 (k t) = nI (k (t + 1))) (h : R0 c lp g) (hon : ¬ mI g 4 = 0) (hmp : mI g 1 = 1) (hW : RW c g j f) : CT l G y_Box_byteAt (.code y_Box_byteAt b_Box_byteAt 4 (some .int)) 11 2 12 (Fyes G) (wld G a c m o) [.ref (a 0 0), .int (nI f), .int (nI i)] (fun r w2 => ∃ c1, TW j c c1 ∧ R0 c1 lp (mLoad g f (k (i / 8))) ∧ (¬ mI (mLoad g f (k (i / 8))) 4 = 0 → RW c1 (mLoad g f (k (i / 8))) j f) ∧ Out (mLoad g f (k (i / 8))) r (some (.int (mByte (mJ (mLoad g f (k (i / 8))) 7 f) (i % 8)))) ∧ w2 = wld G a c1 m o) := by
  refine CT.of (by decide) (Nat.le_of_ble_eq_true rfl) rfl ?_
  intro E hl hG hF C r hw hex hnm
  subst hl; subst hG
  have Fw : Cw E := fun a h => by rw [hF]; exact h
  have hj := (hF9 f hf).2 j hfj
  refine aw_aload_n (i := 0) C (dec D_Box_byteAt rfl) rfl rfl ?_
  refine aw_iload_n (i := 1) C (dec D_Box_byteAt rfl) rfl rfl ?_
  refine aw_cv C ci_Box_152 [_] (c_Box_fileAt1 _ _ _ _ _ _ f j fo hm hF9 hf hfj) (dec D_Box_byteAt rfl) rcB rfl fpP (Nat.le_of_ble_eq_true rfl) (by decide) ⟨by decide, by decide⟩ (fun v w2 hp => ?_) (fun _ _ h => by cases h.1)
  obtain ⟨hv, rfl⟩ := hp
  cases hv
  refine aw_astore_n (i := 3) C (dec D_Box_byteAt rfl) rfl (by decide) ?_
  refine aw_iload_n (i := 2) C (dec D_Box_byteAt rfl) rfl rfl ?_
  refine aw_iconst (v := 0) C (dec D_Box_byteAt rfl) (by decide) ?_
  refine aw_aload_n (i := 3) C (dec D_Box_byteAt rfl) rfl rfl ?_
  refine gf_Box_156 C hj (dec D_Box_byteAt rfl) ?_
  rw [hl.1]
  refine aw_iconst (v := 1) C (dec D_Box_byteAt rfl) (by decide) ?_
  refine aw_isub C (dec D_Box_byteAt rfl) ?_
  rw [show (1 : Int32) = nI 1 from rfl, pk_sub (by omega)]
  refine aw_cs C ci_Box_70 [_, _, _] (c_Box_within _ _ _ _ _ _ _ _ _) (dec D_Box_byteAt rfl) rfl fpP (Nat.le_of_ble_eq_true rfl) (by decide) ⟨by decide, by decide⟩ (fun v w2 hp => ?_) (fun _ _ h => by cases h.1)
  obtain ⟨hv, rfl⟩ := hp
  cases hv
  rw [show wth (nI i) 0 (nI (n - 1)) = 1 from wth_in (by omega) (by omega)]
  refine aw_if_ne (tgt := 28) C (dec D_Box_byteAt rfl) (by decide) (fun _ => ?_) (fun h_ => absurd h_ (show ¬ (1 : Int32) = (0 : Int32) by decide))
  refine aw_aload_n (i := 3) C (dec D_Box_byteAt rfl) rfl rfl ?_
  refine gf_Box_159 C hj (dec D_Box_byteAt rfl) ?_
  refine aw_aload_n (i := 0) C (dec D_Box_byteAt rfl) rfl rfl ?_
  refine gf_Box_27 C (dec D_Box_byteAt rfl) ?_
  refine aw_aload_n (i := 0) C (dec D_Box_byteAt rfl) rfl rfl ?_
  refine gf_Box_34 C (dec D_Box_byteAt rfl) ?_
  refine aw_aload_n (i := 3) C (dec D_Box_byteAt rfl) rfl rfl ?_
  refine aw_iload_n (i := 2) C (dec D_Box_byteAt rfl) rfl rfl ?_
  refine aw_bipush (v := 8) C (dec D_Box_byteAt rfl) (by decide) ?_
  refine aw_idiv C (dec D_Box_byteAt rfl) (by decide) ?_
  rw [show (8 : Int32) = nI 8 from rfl, pk_div (by omega) (by omega) (by omega)]
  refine aw_cv C ci_Box_163 [_, _] (c_Dir_pageOf _ _ _ _ _ _ j (i / 8) k hj (by omega) h0 (fun t ht => ⟨hk t (by omega), hk2 t ht⟩)) (dec D_Box_byteAt rfl) rcD rfl fpP (Nat.le_of_ble_eq_true rfl) (by decide) ⟨by decide, by decide⟩ (fun v w2 hp => ?_) (fun _ _ h => by cases h.1)
  obtain ⟨hv, rfl⟩ := hp
  cases hv
  refine aw_cv C ci_Box_183 [_, _] (c_Win_loadS _ _ a c m o j f (k (i / 8)) lp g hj (hk _ (Nat.le_refl _)) h hon hmp hW) (dec D_Box_byteAt rfl) (rcW hj) rfl (fpW Fw) (Nat.le_of_ble_eq_true rfl) (by decide) ⟨by decide, by decide⟩ (fun v w2 hp => ?_) (fun n w2 hp => by obtain ⟨c1, t1, r1, -, hv, rfl⟩ := hp; obtain ⟨rfl, off1⟩ := hv.thr; exact at_leave C r hex (by decide) (by decide) ⟨c1, t1, r1, fun z => absurd off1 z, .inr ⟨rfl, off1⟩, rfl⟩)
  obtain ⟨c1, t1, r1, w1, hv, rfl⟩ := hp
  obtain ⟨hv, on1⟩ := hv.ret
  subst hv
  obtain ⟨w1, w2⟩ := w1 on1
  have hj1 : j < cN c1 17 0 := by rw [t1.2.2.1]; exact hj
  have eb : cL c1 1 j = mJ (mLoad g f (k (i / 8))) 7 f := w1.2.2.2.1 (by rw [← w1.1, w2]; exact nI_m1 (hk _ (Nat.le_refl _)))
  refine aw_aload_n (i := 3) C (dec D_Box_byteAt rfl) rfl rfl ?_
  refine gf_Box_159 C hj1 (dec D_Box_byteAt rfl) ?_
  refine gf_Box_180 C hj1 (dec D_Box_byteAt rfl) ?_
  rw [eb]
  refine aw_bipush (v := 8) C (dec D_Box_byteAt rfl) (by decide) ?_
  refine aw_iload_n (i := 2) C (dec D_Box_byteAt rfl) rfl rfl ?_
  refine aw_bipush (v := 8) C (dec D_Box_byteAt rfl) (by decide) ?_
  refine aw_irem C (dec D_Box_byteAt rfl) (by decide) ?_
  rw [show nI i - nI i / 8 * 8 = nI (i % 8) from pk_rem (d := 8) (by omega) (by omega) (by omega)]
  refine aw_imul C (dec D_Box_byteAt rfl) ?_
  refine aw_lushr C (dec D_Box_byteAt rfl) ?_
  refine aw_l2i C (dec D_Box_byteAt rfl) ?_
  refine aw_sipush (v := 255) C (dec D_Box_byteAt rfl) (by decide) ?_
  refine aw_iand C (dec D_Box_byteAt rfl) ?_
  change AW E _ _ _ _ _ _ [.int ((ush (mJ (mLoad g f (k (i / 8))) 7 f) (8 * nI (i % 8))).toInt32 &&& 255)]
  rw [cByte_eq _ (by omega)]
  refine aw_ret_i C r (dec D_Box_byteAt rfl) rfl (by decide) (by decide) ?_
  exact ⟨c1, t1, r1, fun _ => w1, .inl ⟨rfl, on1⟩, rfl⟩
theorem c_Box_byteAto (l : Launch) (G : GG) (a : AD) (c : CC) (m : MM) (o : OO) (f j : Nat) (y : Int32) (fo : Nat → Option Nat) (hm : ¬ cMtd c = 0) (hF9 : FOk c fo) (hf : f < 8) (hfj : fo f = some j) (hw9 : wth y 0 (cI c 12 j - 1) = 0) : CT l G y_Box_byteAt (.code y_Box_byteAt b_Box_byteAt 4 (some .int)) 6 1 6 Fno (wld G a c m o) [.ref (a 0 0), .int (nI f), .int y] (fun r w2 => r = .inr 3 ∧ w2 = wld G a c m o) := by
  refine CT.of (by decide) (Nat.le_of_ble_eq_true rfl) rfl ?_
  intro E hl hG hF C r hw hex hnm
  subst hl; subst hG
  have hj := (hF9 f hf).2 j hfj
  refine aw_aload_n (i := 0) C (dec D_Box_byteAt rfl) rfl rfl ?_
  refine aw_iload_n (i := 1) C (dec D_Box_byteAt rfl) rfl rfl ?_
  refine aw_cv C ci_Box_152 [_] (c_Box_fileAt1 _ _ _ _ _ _ f j fo hm hF9 hf hfj) (dec D_Box_byteAt rfl) rcB rfl fpP (Nat.le_of_ble_eq_true rfl) (by decide) ⟨by decide, by decide⟩ (fun v w2 hp => ?_) (fun _ _ h => by cases h.1)
  obtain ⟨hv, rfl⟩ := hp
  cases hv
  refine aw_astore_n (i := 3) C (dec D_Box_byteAt rfl) rfl (by decide) ?_
  refine aw_iload_n (i := 2) C (dec D_Box_byteAt rfl) rfl rfl ?_
  refine aw_iconst (v := 0) C (dec D_Box_byteAt rfl) (by decide) ?_
  refine aw_aload_n (i := 3) C (dec D_Box_byteAt rfl) rfl rfl ?_
  refine gf_Box_156 C hj (dec D_Box_byteAt rfl) ?_
  refine aw_iconst (v := 1) C (dec D_Box_byteAt rfl) (by decide) ?_
  refine aw_isub C (dec D_Box_byteAt rfl) ?_
  refine aw_cs C ci_Box_70 [_, _, _] (c_Box_within _ _ _ _ _ _ _ _ _) (dec D_Box_byteAt rfl) rfl fpP (Nat.le_of_ble_eq_true rfl) (by decide) ⟨by decide, by decide⟩ (fun v w2 hp => ?_) (fun _ _ h => by cases h.1)
  obtain ⟨hv, rfl⟩ := hp
  cases hv
  rw [hw9]
  refine aw_if_ne (tgt := 28) C (dec D_Box_byteAt rfl) (by decide) (fun h_ => absurd (show (0 : Int32) = (0 : Int32) by decide) h_) (fun _ => ?_)
  exact aw_throw C r hex hw xi_3 (dec D_Box_byteAt rfl) (dec D_Box_byteAt rfl) (dec D_Box_byteAt rfl) (dec D_Box_byteAt rfl) (by decide) (by decide) (by decide) (by decide) ⟨rfl, rfl⟩
theorem c_Box_truncateo (l : Launch) (G : GG) (a : AD) (c : CC) (m : MM) (o : OO) (f j : Nat) (y : Int32) (fo : Nat → Option Nat) (hm : ¬ cMtd c = 0) (hF9 : FOk c fo) (hf : f < 8) (hfj : fo f = some j) (hw9 : wth y 0 (cI c 12 j) = 0) : CT l G y_Box_truncate (.code y_Box_truncate b_Box_truncate 5 (some .int)) 7 1 6 Fno (wld G a c m o) [.ref (a 0 0), .int (nI f), .int y] (fun r w2 => r = .inr 1 ∧ w2 = wld G a c m o) := by
  refine CT.of (by decide) (Nat.le_of_ble_eq_true rfl) rfl ?_
  intro E hl hG hF C r hw hex hnm
  subst hl; subst hG
  have hj := (hF9 f hf).2 j hfj
  refine aw_aload_n (i := 0) C (dec D_Box_truncate rfl) rfl rfl ?_
  refine aw_iload_n (i := 1) C (dec D_Box_truncate rfl) rfl rfl ?_
  refine aw_cv C ci_Box_152 [_] (c_Box_fileAt1 _ _ _ _ _ _ f j fo hm hF9 hf hfj) (dec D_Box_truncate rfl) rcB rfl fpP (Nat.le_of_ble_eq_true rfl) (by decide) ⟨by decide, by decide⟩ (fun v w2 hp => ?_) (fun _ _ h => by cases h.1)
  obtain ⟨hv, rfl⟩ := hp
  cases hv
  refine aw_astore_n (i := 3) C (dec D_Box_truncate rfl) rfl (by decide) ?_
  refine aw_iload_n (i := 2) C (dec D_Box_truncate rfl) rfl rfl ?_
  refine aw_iconst (v := 0) C (dec D_Box_truncate rfl) (by decide) ?_
  refine aw_aload_n (i := 3) C (dec D_Box_truncate rfl) rfl rfl ?_
  refine gf_Box_156 C hj (dec D_Box_truncate rfl) ?_
  refine aw_cs C ci_Box_70 [_, _, _] (c_Box_within _ _ _ _ _ _ _ _ _) (dec D_Box_truncate rfl) rfl fpP (Nat.le_of_ble_eq_true rfl) (by decide) ⟨by decide, by decide⟩ (fun v w2 hp => ?_) (fun _ _ h => by cases h.1)
  obtain ⟨hv, rfl⟩ := hp
  cases hv
  rw [hw9]
  refine aw_cs C ci_Box_78 [_] (c_Box_argue0 _ _ _ _ _ _) (dec D_Box_truncate rfl) rfl fpP (Nat.le_of_ble_eq_true rfl) (by decide) ⟨by decide, by decide⟩ (fun v w2 hp => by cases hp.1) (fun n w2 hp => ?_)
  obtain ⟨hv, rfl⟩ := hp
  cases hv
  exact at_leave C r hex (by decide) (by decide) (⟨rfl, rfl⟩)
theorem c_Box_truncate1 (l : Launch) (G : GG) (a : AD) (c : CC) (m : MM) (o : OO) (f j n i : Nat) (fo : Nat → Option Nat) (k : Nat → Nat) (hm : ¬ cMtd c = 0) (hF9 : FOk c fo) (hf : f < 8) (hfj : fo f = some j) (hl : cI c 12 j = nI n ∧ n ≤ 488) (hin : i ≤ n) (h0 : 0 < pg n → cI c 11 j = nI (k 0)) (hk : ∀ t, t < pg n → k t < 101) (hk2 : ∀ t, t < pg n → cA c 7 0 (k t) = nI (k (t + 1))) (hk3 : ∀ t t', t < pg n → t' < pg n → k t = k t' → t = t') (hk4 : k (pg n) = 0) : CT l G y_Box_truncate (.code y_Box_truncate b_Box_truncate 5 (some .int)) 2 0 0 (Fyes G) (wld G a c m o) [.ref (a 0 0), .int (nI f), .int (nI i)] (fun r w2 => r = .inl (some (.int (nI (pg n - pg i)))) ∧ w2 = wld G a (sI (cCut c j k (pg i) (pg n)) 12 j (nI i)) m o) := by
  refine CT.of (by decide) (Nat.le_of_ble_eq_true rfl) rfl ?_
  intro E hl hG hF C r hw hex hnm
  subst hl; subst hG
  have Fw : Cw E := fun a h => by rw [hF]; exact h
  have hj := (hF9 f hf).2 j hfj
  have hpg : pg i ≤ pg n := pg_le' hin
  refine aw_aload_n (i := 0) C (dec D_Box_truncate rfl) rfl rfl ?_
  refine aw_iload_n (i := 1) C (dec D_Box_truncate rfl) rfl rfl ?_
  refine aw_cv C ci_Box_152 [_] (c_Box_fileAt1 _ _ _ _ _ _ f j fo hm hF9 hf hfj) (dec D_Box_truncate rfl) rcB rfl fpP (Nat.le_of_ble_eq_true rfl) (by decide) ⟨by decide, by decide⟩ (fun v w2 hp => ?_) (fun _ _ h => by cases h.1)
  obtain ⟨hv, rfl⟩ := hp
  cases hv
  refine aw_astore_n (i := 3) C (dec D_Box_truncate rfl) rfl (by decide) ?_
  refine aw_iload_n (i := 2) C (dec D_Box_truncate rfl) rfl rfl ?_
  refine aw_iconst (v := 0) C (dec D_Box_truncate rfl) (by decide) ?_
  refine aw_aload_n (i := 3) C (dec D_Box_truncate rfl) rfl rfl ?_
  refine gf_Box_156 C hj (dec D_Box_truncate rfl) ?_
  rw [hl.1]
  refine aw_cs C ci_Box_70 [_, _, _] (c_Box_within _ _ _ _ _ _ _ _ _) (dec D_Box_truncate rfl) rfl fpP (Nat.le_of_ble_eq_true rfl) (by decide) ⟨by decide, by decide⟩ (fun v w2 hp => ?_) (fun _ _ h => by cases h.1)
  obtain ⟨hv, rfl⟩ := hp
  cases hv
  rw [show wth (nI i) 0 (nI n) = 1 from wth_in hin (by omega)]
  refine aw_cs C ci_Box_78 [_] (c_Box_argue1 _ _ _ _ _ _ _ (show ¬ (1 : Int32) = 0 by decide)) (dec D_Box_truncate rfl) rfl fpP (Nat.le_of_ble_eq_true rfl) (by decide) ⟨by decide, by decide⟩ (fun v w2 hp => ?_) (fun _ _ h => by cases h.1)
  obtain ⟨hv, rfl⟩ := hp
  cases hv
  refine aw_aload_n (i := 0) C (dec D_Box_truncate rfl) rfl rfl ?_
  refine gf_Box_34 C (dec D_Box_truncate rfl) ?_
  refine aw_aload_n (i := 3) C (dec D_Box_truncate rfl) rfl rfl ?_
  refine aw_iload_n (i := 2) C (dec D_Box_truncate rfl) rfl rfl ?_
  refine aw_bipush (v := 8) C (dec D_Box_truncate rfl) (by decide) ?_
  refine aw_iadd C (dec D_Box_truncate rfl) ?_
  refine aw_iconst (v := 1) C (dec D_Box_truncate rfl) (by decide) ?_
  refine aw_isub C (dec D_Box_truncate rfl) ?_
  refine aw_bipush (v := 8) C (dec D_Box_truncate rfl) (by decide) ?_
  refine aw_idiv C (dec D_Box_truncate rfl) (by decide) ?_
  rw [show (nI i + 8 - 1) / 8 = nI (pg i) from pgE2 rfl (by omega)]
  refine aw_cv C ci_Box_199 [_, _] (c_Dir_cut _ _ _ _ _ _ j (pg i) n k hj hl hpg h0 hk hk2 hk3 hk4) (dec D_Box_truncate rfl) rcD rfl (fpW Fw) (Nat.le_of_ble_eq_true rfl) (by decide) ⟨by decide, by decide⟩ (fun v w2 hp => ?_) (fun _ _ h => by cases h.1)
  obtain ⟨hv, rfl⟩ := hp
  cases hv
  have ho := cCut_o (c := c) (j := j) (k := k) hpg
  have hj2 : j < cN (cCut c j k (pg i) (pg n)) 17 0 := by rw [ho.2.1]; exact hj
  refine aw_istore C (dec D_Box_truncate rfl) (by decide) ?_
  refine aw_aload_n (i := 3) C (dec D_Box_truncate rfl) rfl rfl ?_
  refine aw_iload_n (i := 2) C (dec D_Box_truncate rfl) rfl rfl ?_
  refine pf_Box_156 C Fw hj2 (dec D_Box_truncate rfl) ?_
  refine aw_iload C (dec D_Box_truncate rfl) rfl ?_
  refine aw_ret_i C r (dec D_Box_truncate rfl) rfl (by decide) (by decide) ?_
  exact ⟨rfl, rfl⟩
theorem c_Box_remove1 (l : Launch) (G : GG) (a : AD) (c : CC) (m : MM) (o : OO) (f j n : Nat) (fo : Nat → Option Nat) (k : Nat → Nat) (hm : ¬ cMtd c = 0) (hF9 : FOk c fo) (hf : f < 8) (hfj : fo f = some j) (hl : cI c 12 j = nI n ∧ n ≤ 488) (h0 : 0 < pg n → cI c 11 j = nI (k 0)) (hk : ∀ t, t < pg n → k t < 101) (hk2 : ∀ t, t < pg n → cA c 7 0 (k t) = nI (k (t + 1))) (hk3 : ∀ t t', t < pg n → t' < pg n → k t = k t' → t = t') (hk4 : k (pg n) = 0) : CT l G y_Box_remove (.code y_Box_remove b_Box_remove 3 (some .int)) 2 0 0 (Fyes G) (wld G a c m o) [.ref (a 0 0), .int (nI f)] (fun r w2 => r = .inl (some (.int (nI (pg n - 0)))) ∧ w2 = wld G a (sR (cCut c j k 0 (pg n)) 6 0 (rup (cR (cCut c j k 0 (pg n)) 6 0) f none)) m o) := by
  refine CT.of (by decide) (Nat.le_of_ble_eq_true rfl) rfl ?_
  intro E hl hG hF C r hw hex hnm
  subst hl; subst hG
  have Fw : Cw E := fun a h => by rw [hF]; exact h
  have hj := (hF9 f hf).2 j hfj
  refine aw_aload_n (i := 0) C (dec D_Box_remove rfl) rfl rfl ?_
  refine gf_Box_34 C (dec D_Box_remove rfl) ?_
  refine aw_aload_n (i := 0) C (dec D_Box_remove rfl) rfl rfl ?_
  refine aw_iload_n (i := 1) C (dec D_Box_remove rfl) rfl rfl ?_
  refine aw_cv C ci_Box_152 [_] (c_Box_fileAt1 _ _ _ _ _ _ f j fo hm hF9 hf hfj) (dec D_Box_remove rfl) rcB rfl fpP (Nat.le_of_ble_eq_true rfl) (by decide) ⟨by decide, by decide⟩ (fun v w2 hp => ?_) (fun _ _ h => by cases h.1)
  obtain ⟨hv, rfl⟩ := hp
  cases hv
  refine aw_iconst (v := 0) C (dec D_Box_remove rfl) (by decide) ?_
  refine aw_cv C ci_Box_199 [_, _] (c_Dir_cut _ _ _ _ _ _ j 0 n k hj hl (by omega) h0 hk hk2 hk3 hk4) (dec D_Box_remove rfl) rcD rfl (fpW Fw) (Nat.le_of_ble_eq_true rfl) (by decide) ⟨by decide, by decide⟩ (fun v w2 hp => ?_) (fun _ _ h => by cases h.1)
  obtain ⟨hv, rfl⟩ := hp
  cases hv
  refine aw_istore_n (i := 2) C (dec D_Box_remove rfl) rfl (by decide) ?_
  refine aw_aload_n (i := 0) C (dec D_Box_remove rfl) rfl rfl ?_
  refine gf_Box_34 C (dec D_Box_remove rfl) ?_
  refine gf_Box_74 C (dec D_Box_remove rfl) ?_
  refine aw_iload_n (i := 1) C (dec D_Box_remove rfl) rfl rfl ?_
  refine aw_null C (dec D_Box_remove rfl) ?_
  refine as_C6N C Fw f (dec D_Box_remove rfl) (ix_of hf) ?_
  refine aw_iload_n (i := 2) C (dec D_Box_remove rfl) rfl rfl ?_
  refine aw_ret_i C r (dec D_Box_remove rfl) rfl (by decide) (by decide) ?_
  exact ⟨rfl, rfl⟩
