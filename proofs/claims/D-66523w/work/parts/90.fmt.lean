/-! the box: format; printed by tools/m90.py -/
theorem c_Box_formatm (l : Launch) (G : GG) (a : AD) (c : CC) (m : MM) (o : OO)  (hm : cI c 4 0 = 0) : CT l G y_Box_format (.code y_Box_format b_Box_format 1 (some .boolean)) 7 1 6 Fno (wld G a c m o) [.ref (a 0 0)] (fun r w2 => r = .inr 0 ∧ w2 = wld G a c m o) := by
  refine CT.of (by decide) (Nat.le_of_ble_eq_true rfl) rfl ?_
  intro E hl hG hF C r hw hex hnm
  subst hl; subst hG
  refine aw_aload_n (i := 0) C (dec D_Box_format rfl) rfl rfl ?_
  refine gf_Box_27 C (dec D_Box_format rfl) ?_
  refine gf_Box_59 C (dec D_Box_format rfl) ?_
  rw [hm]
  refine aw_cs C ci_Box_66 [_] (c_Box_want0 _ _ _ _ _ _) (dec D_Box_format rfl) rfl fpP (Nat.le_of_ble_eq_true rfl) (by decide) ⟨by decide, by decide⟩ (fun v w2 hp => by cases hp.1) (fun n w2 hp => ?_)
  obtain ⟨hv, rfl⟩ := hp
  cases hv
  exact at_leave C r hex (by decide) (by decide) (⟨rfl, rfl⟩)
theorem c_Box_format0 (l : Launch) (G : GG) (a : AD) (c : CC) (m : MM) (o : OO) (lp : Nat → Nat) (hm : ¬ cI c 4 0 = 0) (hl9 : LWf c lp) (hg : gN c lp 69 < 64) : CT l G y_Box_format (.code y_Box_format b_Box_format 1 (some .boolean)) 3 0 0 (Fyes G) (wld G a c m o) [.ref (a 0 0)] (fun r w2 => r = .inl (some (.int 0)) ∧ w2 = wld G a c m o) := by
  refine CT.of (by decide) (Nat.le_of_ble_eq_true rfl) rfl ?_
  intro E hl hG hF C r hw hex hnm
  subst hl; subst hG
  have Fw : Cw E := fun a h => by rw [hF]; exact h
  refine aw_aload_n (i := 0) C (dec D_Box_format rfl) rfl rfl ?_
  refine gf_Box_27 C (dec D_Box_format rfl) ?_
  refine gf_Box_59 C (dec D_Box_format rfl) ?_
  refine aw_cs C ci_Box_66 [_] (c_Box_want1 _ _ _ _ _ _ _ hm) (dec D_Box_format rfl) rfl fpP (Nat.le_of_ble_eq_true rfl) (by decide) ⟨by decide, by decide⟩ (fun v w2 hp => ?_) (fun _ _ h => by cases h.1)
  obtain ⟨hv, rfl⟩ := hp
  cases hv
  refine aw_aload_n (i := 0) C (dec D_Box_format rfl) rfl rfl ?_
  refine gf_Box_18 C (dec D_Box_format rfl) ?_
  refine aw_cv C ci_Box_105 [] (c_Chip_test0 _ _ _ _ _ _ lp hl9 hg) (dec D_Box_format rfl) rcC rfl (fpW Fw) (Nat.le_of_ble_eq_true rfl) (by decide) ⟨by decide, by decide⟩ (fun v w2 hp => ?_) (fun _ _ h => by cases h.1)
  obtain ⟨hv, rfl⟩ := hp
  cases hv
  refine aw_if_ne (tgt := 22) C (dec D_Box_format rfl) (by decide) (fun h_ => absurd (show (0 : Int32) = (0 : Int32) by decide) h_) (fun _ => ?_)
  refine aw_iconst (v := 0) C (dec D_Box_format rfl) (by decide) ?_
  refine aw_ret_i C r (dec D_Box_format rfl) rfl (by decide) (by decide) ?_
  exact ⟨rfl, rfl⟩
theorem c_Box_formatS (l : Launch) (G : GG) (a : AD) (c : CC) (m : MM) (o : OO) (lp : Nat → Nat) (g : MM) (q qa : Nat) (h : R0 c lp g) (hS : RS c) (hon : ¬ mI g 4 = 0) (hg : 64 ≤ gN c lp 69) (hq : cI c 8 0 = nI q ∧ q ≤ cN c 14 0 ∧ cN c 14 0 ≤ 100) (hqa : cI c 8 1 = nI qa ∧ qa ≤ cN c 14 1 ∧ cN c 14 1 ≤ 100) : CT l G y_Box_format (.code y_Box_format b_Box_format 1 (some .boolean)) 11 28 168 (Fyes G) (wld G a c m o) [.ref (a 0 0)] (fun r w2 => ∃ c', R0 c' lp (mFmt3 g) ∧ RS c' ∧ cI c' 0 0 = 1 ∧ w2 = wld G a c' m o ∧ ((r = .inl (some (.int 1)) ∧ ¬ mI (mFmt3 g) 4 = 0 ∧ Al c' lp (mFmt3 g) (fun _ => none) (fun _ => 0) (fun _ _ => 0) 0 0 0 0 (fun _ => 0) (fun _ => 0) (fun _ => 0)) ∨ (r = .inr 0 ∧ mI (mFmt3 g) 4 = 0))) := by
  refine CT.of (by decide) (Nat.le_of_ble_eq_true rfl) rfl ?_
  intro E hl hG hF C r hw hex hnm
  subst hl; subst hG
  have Fw : Cw E := fun a h => by rw [hF]; exact h
  obtain ⟨hA, hm1, hm4, -, -⟩ := Al.fmt h hS hg q qa (fun _ => 0) (fun _ => 0) (fun _ => 0)
  have hm : ¬ cI c 4 0 = 0 := fun z => hon (h.2.2.2.2.2.1.1 ▸ z)
  have o3 := cT3_o c lp 69
  have hq1 : cI (cTest c lp) 8 0 = nI q ∧ q ≤ cN (cTest c lp) 14 0 ∧ cN (cTest c lp) 14 0 ≤ 100 := by unfold cTest; rw [cI_I, if_neg (by decide), cI_L, cN_I, cN_L, o3.1, o3.2.2.2]; exact hq
  have hqa1 : cI (cTest c lp) 8 1 = nI qa ∧ qa ≤ cN (cTest c lp) 14 1 ∧ cN (cTest c lp) 14 1 ≤ 100 := by unfold cTest; rw [cI_I, if_neg (by decide), cI_L, cN_I, cN_L, o3.1, o3.2.2.2]; exact hqa
  refine aw_aload_n (i := 0) C (dec D_Box_format rfl) rfl rfl ?_
  refine gf_Box_27 C (dec D_Box_format rfl) ?_
  refine gf_Box_59 C (dec D_Box_format rfl) ?_
  refine aw_cs C ci_Box_66 [_] (c_Box_want1 _ _ _ _ _ _ _ hm) (dec D_Box_format rfl) rfl fpP (Nat.le_of_ble_eq_true rfl) (by decide) ⟨by decide, by decide⟩ (fun v w2 hp => ?_) (fun _ _ h => by cases h.1)
  obtain ⟨hv, rfl⟩ := hp
  cases hv
  refine aw_aload_n (i := 0) C (dec D_Box_format rfl) rfl rfl ?_
  refine gf_Box_18 C (dec D_Box_format rfl) ?_
  refine aw_cv C ci_Box_105 [] (c_Chip_test1 _ _ _ _ _ _ lp h.1 hg) (dec D_Box_format rfl) rcC rfl (fpW Fw) (Nat.le_of_ble_eq_true rfl) (by decide) ⟨by decide, by decide⟩ (fun v w2 hp => ?_) (fun _ _ h => by cases h.1)
  obtain ⟨hv, rfl⟩ := hp
  cases hv
  generalize cTest c lp = c1 at hA hq1 hqa1 ⊢
  refine aw_if_ne (tgt := 22) C (dec D_Box_format rfl) (by decide) (fun _ => ?_) (fun h_ => absurd h_ (show ¬ (1 : Int32) = (0 : Int32) by decide))
  refine aw_aload_n (i := 0) C (dec D_Box_format rfl) rfl rfl ?_
  refine aw_cv C ci_Box_108 [] (c_Box_forget _ _ _ _ _ _ q qa hq1 hqa1) (dec D_Box_format rfl) rcB rfl (fpW Fw) (Nat.le_of_ble_eq_true rfl) (by decide) ⟨by decide, by decide⟩ (fun v w2 hp => ?_) (fun _ _ h => by cases h.1)
  obtain ⟨hv, rfl⟩ := hp
  cases hv
  generalize cForg c1 q qa = c2 at hA ⊢
  refine aw_aload_n (i := 0) C (dec D_Box_format rfl) rfl rfl ?_
  refine gf_Box_34 C (dec D_Box_format rfl) ?_
  refine aw_iconst (v := 1) C (dec D_Box_format rfl) (by decide) ?_
  refine pf_Box_111 C Fw (dec D_Box_format rfl) ?_
  refine aw_aload_n (i := 0) C (dec D_Box_format rfl) rfl rfl ?_
  refine gf_Box_34 C (dec D_Box_format rfl) ?_
  refine aw_sipush (v := 255) C (dec D_Box_format rfl) (by decide) ?_
  refine pf_Box_114 C Fw (dec D_Box_format rfl) ?_
  refine aw_aload_n (i := 0) C (dec D_Box_format rfl) rfl rfl ?_
  refine aw_iconst (v := 1) C (dec D_Box_format rfl) (by decide) ?_
  refine pf_Box_55 C Fw bz1 (dec D_Box_format rfl) ?_
  refine aw_aload_n (i := 0) C (dec D_Box_format rfl) rfl rfl ?_
  have hmt : ¬ cMtd (sI (sI (sI c2 5 0 1) 6 0 255) 0 0 1) = 0 := by
    have e4 := hA.1.2.2.2.2.2.1.1
    unfold cMtd; rw [e4, hm4, show cI (sI (sI (sI c2 5 0 1) 6 0 255) 0 0 1) 0 0 = 1 from rfl, if_neg (show ¬ (1 : Int32) = 0 by decide), if_neg hon]; decide
  refine aw_cv C ci_Box_117 [] (c_Box_syncS _ _ a _ m o lp (mFmt2 g) _ _ _ 1 255 0 0 _ _ _ hmt hA (by rw [hm4]; exact hon) hm1) (dec D_Box_format rfl) rcB rfl (fpW Fw) (Nat.le_of_ble_eq_true rfl) (by decide) ⟨by decide, by decide⟩ (fun v w2 hp => ?_) (fun n w2 hp => by obtain ⟨c3, r3, s3, z3, rfl, hv⟩ := hp; rcases hv with ⟨hv, -⟩ | ⟨hv, off3⟩; cases hv; cases hv; exact at_leave C r hex (by decide) (by decide) ⟨c3, r3, s3, z3, rfl, .inr ⟨rfl, off3⟩⟩)
  obtain ⟨c3, r3, s3, z3, rfl, hv⟩ := hp
  rcases hv with ⟨hv, on3, hA3⟩ | ⟨hv, -⟩
  cases hv
  refine aw_pop C (dec D_Box_format rfl) rfl ?_
  refine aw_iconst (v := 1) C (dec D_Box_format rfl) (by decide) ?_
  refine aw_ret_i C r (dec D_Box_format rfl) rfl (by decide) (by decide) ?_
  exact ⟨c3, r3, s3, z3, rfl, .inl ⟨rfl, on3, hA3⟩⟩
  cases hv
