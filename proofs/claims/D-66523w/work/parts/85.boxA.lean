/-! the box: append, forget; printed by tools/m85.py -/
def cApp (c : CC) (j : Nat) (b : Int32) : CC := sI (sI (sL c 1 j (putR (cL c 1 j) (8 * (cI c 12 j - cI c 12 j / 8 * 8)) b)) 14 j 1) 12 j (cI c 12 j + 1)
def dl_Box_append_1 : List (Nat × Instr × Nat) := [(166, .iload 9, 2), (168, .invokevirtual 186, 3), (171, .aload 4, 2), (173, .iload 9, 2), (175, .putfield 190, 3), (178, .aload 4, 2), (180, .aload_n 3, 1), (181, .getfield 156, 3), (184, .bipush 8, 2), (186, .irem, 1), (187, .iload_n 2, 1), (188, .invokevirtual 193, 3), (191, .aload_n 3, 1), (192, .dup, 1), (193, .getfield 156, 3), (196, .iconst 1, 1), (197, .iadd, 1), (198, .putfield 156, 3), (201, .aload_n 3, 1), (202, .getfield 156, 3), (205, .ireturn, 1)]
theorem D_Box_append_1 : ∀ q ∈ dl_Box_append_1, decode b_Box_append q.1 = .ok q.2 := by decide +kernel
theorem c_Box_appendu (l : Launch) (G : GG) (a : AD) (c : CC) (m : MM) (o : OO) (f j n : Nat) (b : Int32) (fo : Nat → Option Nat) (k : Nat → Nat) (hm : ¬ cMtd c = 0) (hF9 : FOk c fo) (hf : f < 8) (hfj : fo f = some j) (hl : cI c 12 j = nI n ∧ n ≤ 488) (h8 : n % 8 = 0) (hfree : cLeast c 61 40 = -1) : CT l G y_Box_append (.code y_Box_append b_Box_append 10 (some .int)) 6 1 6 Fno (wld G a c m o) [.ref (a 0 0), .int (nI f), .int b] (fun r w2 => r = .inr 2 ∧ w2 = wld G a c m o) := by
  refine CT.of (by decide) (Nat.le_of_ble_eq_true rfl) rfl ?_
  intro E hl hG hF C r hw hex hnm
  subst hl; subst hG
  have hj := (hF9 f hf).2 j hfj
  refine aw_aload_n (i := 0) C (dec D_Box_append rfl) rfl rfl ?_
  refine aw_iload_n (i := 1) C (dec D_Box_append rfl) rfl rfl ?_
  refine aw_cv C ci_Box_152 [_] (c_Box_fileAt1 _ _ _ _ _ _ f j fo hm hF9 hf hfj) (dec D_Box_append rfl) rcB rfl fpP (Nat.le_of_ble_eq_true rfl) (by decide) ⟨by decide, by decide⟩ (fun v w2 hp => ?_) (fun _ _ h => by cases h.1)
  obtain ⟨hv, rfl⟩ := hp
  cases hv
  refine aw_astore_n (i := 3) C (dec D_Box_append rfl) rfl (by decide) ?_
  refine aw_aload_n (i := 3) C (dec D_Box_append rfl) rfl rfl ?_
  refine gf_Box_159 C hj (dec D_Box_append rfl) ?_
  refine aw_astore C (dec D_Box_append rfl) (by decide) ?_
  refine aw_aload_n (i := 3) C (dec D_Box_append rfl) rfl rfl ?_
  refine gf_Box_156 C hj (dec D_Box_append rfl) ?_
  rw [hl.1]
  refine aw_bipush (v := 8) C (dec D_Box_append rfl) (by decide) ?_
  refine aw_idiv C (dec D_Box_append rfl) (by decide) ?_
  rw [show nI n / 8 = nI (n / 8) from pk_div (d := 8) (by omega) (by omega) (by omega)]
  refine aw_istore C (dec D_Box_append rfl) (by decide) ?_
  refine AW.ls [(0, .ref (a 0 0)), (1, .int (nI f)), (2, .int b), (3, .ref (a 17 j)), (4, .ref (a 18 j)), (5, .int (nI (n / 8)))] rfl ?_
  refine aw_aload_n (i := 3) C (dec D_Box_append rfl) rfl rfl ?_
  refine gf_Box_156 C hj (dec D_Box_append rfl) ?_
  rw [hl.1]
  refine aw_bipush (v := 8) C (dec D_Box_append rfl) (by decide) ?_
  refine aw_irem C (dec D_Box_append rfl) (by decide) ?_
  rw [show nI n - nI n / 8 * 8 = nI (n % 8) from pk_rem (d := 8) (by omega) (by omega) (by omega)]
  rw [h8]
  refine aw_if_ne (tgt := 35) C (dec D_Box_append rfl) (by decide) (fun h_ => absurd (show (0 : Int32) = (0 : Int32) by decide) h_) (fun _ => ?_)
  refine aw_iconst (v := 1) C (dec D_Box_append rfl) (by decide) ?_
  refine aw_goto (tgt := 36) C (dec D_Box_append rfl) (by decide) ?_
  refine aw_istore C (dec D_Box_append rfl) (by decide) ?_
  refine AW.ls [(0, .ref (a 0 0)), (1, .int (nI f)), (2, .int b), (3, .ref (a 17 j)), (4, .ref (a 18 j)), (5, .int (nI (n / 8))), (6, .int 1)] rfl ?_
  refine aw_iload C (dec D_Box_append rfl) rfl ?_
  refine aw_if_eq (tgt := 47) C (dec D_Box_append rfl) (by decide) (fun h_ => absurd h_ (show ¬ (1 : Int32) = (0 : Int32) by decide)) (fun _ => ?_)
  refine aw_iconst (v := (-1)) C (dec D_Box_append rfl) (by decide) ?_
  refine aw_goto (tgt := 57) C (dec D_Box_append rfl) (by decide) ?_
  refine aw_istore C (dec D_Box_append rfl) (by decide) ?_
  refine AW.ls [(0, .ref (a 0 0)), (1, .int (nI f)), (2, .int b), (3, .ref (a 17 j)), (4, .ref (a 18 j)), (5, .int (nI (n / 8))), (6, .int 1), (7, .int (-1))] rfl ?_
  refine aw_iload C (dec D_Box_append rfl) rfl ?_
  refine aw_if_ne (tgt := 77) C (dec D_Box_append rfl) (by decide) (fun _ => ?_) (fun h_ => absurd h_ (show ¬ (1 : Int32) = (0 : Int32) by decide))
  refine aw_iconst (v := 1) C (dec D_Box_append rfl) (by decide) ?_
  refine aw_goto (tgt := 82) C (dec D_Box_append rfl) (by decide) ?_
  refine aw_istore C (dec D_Box_append rfl) (by decide) ?_
  refine AW.ls [(0, .ref (a 0 0)), (1, .int (nI f)), (2, .int b), (3, .ref (a 17 j)), (4, .ref (a 18 j)), (5, .int (nI (n / 8))), (6, .int 1), (7, .int (-1)), (8, .int 1)] rfl ?_
  refine aw_iload C (dec D_Box_append rfl) rfl ?_
  refine aw_if_eq (tgt := 99) C (dec D_Box_append rfl) (by decide) (fun h_ => absurd h_ (show ¬ (1 : Int32) = (0 : Int32) by decide)) (fun _ => ?_)
  refine aw_aload_n (i := 0) C (dec D_Box_append rfl) rfl rfl ?_
  refine gf_Box_34 C (dec D_Box_append rfl) ?_
  refine aw_cv C ci_Box_171 [] (c_Dir_free _ _ _ _ _ _) (dec D_Box_append rfl) rcD rfl fpP (Nat.le_of_ble_eq_true rfl) (by decide) ⟨by decide, by decide⟩ (fun v w2 hp => ?_) (fun _ _ h => by cases h.1)
  obtain ⟨hv, rfl⟩ := hp
  cases hv
  rw [hfree]
  refine aw_goto (tgt := 100) C (dec D_Box_append rfl) (by decide) ?_
  refine aw_istore C (dec D_Box_append rfl) (by decide) ?_
  refine AW.ls [(0, .ref (a 0 0)), (1, .int (nI f)), (2, .int b), (3, .ref (a 17 j)), (4, .ref (a 18 j)), (5, .int (nI (n / 8))), (6, .int 1), (7, .int (-1)), (8, .int 1), (9, .int (-1))] rfl ?_
  refine aw_iload C (dec D_Box_append rfl) rfl ?_
  refine aw_if_eq (tgt := 120) C (dec D_Box_append rfl) (by decide) (fun h_ => absurd h_ (show ¬ (1 : Int32) = (0 : Int32) by decide)) (fun _ => ?_)
  refine aw_iload C (dec D_Box_append rfl) rfl ?_
  refine aw_if_ge (tgt := 120) C (dec D_Box_append rfl) (by decide) (fun h_ => absurd h_ (show ¬ (0 : Int32) ≤ (-1 : Int32) by decide)) (fun _ => ?_)
  exact aw_throw C r hex hw xi_2 (dec D_Box_append rfl) (dec D_Box_append rfl) (dec D_Box_append rfl) (dec D_Box_append rfl) (by decide) (by decide) (by decide) (by decide) ⟨rfl, rfl⟩
theorem c_Box_appendv (l : Launch) (G : GG) (a : AD) (c : CC) (m : MM) (o : OO) (f j n : Nat) (b : Int32) (fo : Nat → Option Nat) (k : Nat → Nat) (hm : ¬ cMtd c = 0) (hF9 : FOk c fo) (hf : f < 8) (hfj : fo f = some j) (hl : cI c 12 j = nI n ∧ n ≤ 488) (h8 : ¬ n % 8 = 0) (h0 : cI c 11 j = nI (k 0)) (hk : ∀ t, t ≤ n / 8 → k t < 101) (hk2 : ∀ t, t < n / 8 → cA c 7 0 (k t) = nI (k (t + 1))) (hheld : ¬ cA c 9 0 (k (n / 8)) = 0) (hfree : cLeast c 61 40 = -1) : CT l G y_Box_append (.code y_Box_append b_Box_append 10 (some .int)) 6 1 6 Fno (wld G a c m o) [.ref (a 0 0), .int (nI f), .int b] (fun r w2 => r = .inr 2 ∧ w2 = wld G a c m o) := by
  refine CT.of (by decide) (Nat.le_of_ble_eq_true rfl) rfl ?_
  intro E hl hG hF C r hw hex hnm
  subst hl; subst hG
  have hj := (hF9 f hf).2 j hfj
  refine aw_aload_n (i := 0) C (dec D_Box_append rfl) rfl rfl ?_
  refine aw_iload_n (i := 1) C (dec D_Box_append rfl) rfl rfl ?_
  refine aw_cv C ci_Box_152 [_] (c_Box_fileAt1 _ _ _ _ _ _ f j fo hm hF9 hf hfj) (dec D_Box_append rfl) rcB rfl fpP (Nat.le_of_ble_eq_true rfl) (by decide) ⟨by decide, by decide⟩ (fun v w2 hp => ?_) (fun _ _ h => by cases h.1)
  obtain ⟨hv, rfl⟩ := hp
  cases hv
  refine aw_astore_n (i := 3) C (dec D_Box_append rfl) rfl (by decide) ?_
  refine aw_aload_n (i := 3) C (dec D_Box_append rfl) rfl rfl ?_
  refine gf_Box_159 C hj (dec D_Box_append rfl) ?_
  refine aw_astore C (dec D_Box_append rfl) (by decide) ?_
  refine aw_aload_n (i := 3) C (dec D_Box_append rfl) rfl rfl ?_
  refine gf_Box_156 C hj (dec D_Box_append rfl) ?_
  rw [hl.1]
  refine aw_bipush (v := 8) C (dec D_Box_append rfl) (by decide) ?_
  refine aw_idiv C (dec D_Box_append rfl) (by decide) ?_
  rw [show nI n / 8 = nI (n / 8) from pk_div (d := 8) (by omega) (by omega) (by omega)]
  refine aw_istore C (dec D_Box_append rfl) (by decide) ?_
  refine AW.ls [(0, .ref (a 0 0)), (1, .int (nI f)), (2, .int b), (3, .ref (a 17 j)), (4, .ref (a 18 j)), (5, .int (nI (n / 8)))] rfl ?_
  refine aw_aload_n (i := 3) C (dec D_Box_append rfl) rfl rfl ?_
  refine gf_Box_156 C hj (dec D_Box_append rfl) ?_
  rw [hl.1]
  refine aw_bipush (v := 8) C (dec D_Box_append rfl) (by decide) ?_
  refine aw_irem C (dec D_Box_append rfl) (by decide) ?_
  rw [show nI n - nI n / 8 * 8 = nI (n % 8) from pk_rem (d := 8) (by omega) (by omega) (by omega)]
  refine aw_if_ne (tgt := 35) C (dec D_Box_append rfl) (by decide) (fun h28 => ?_) (fun h28 => ?_)
  · refine aw_iconst (v := 0) C (dec D_Box_append rfl) (by decide) ?_
    refine aw_istore C (dec D_Box_append rfl) (by decide) ?_
    refine AW.ls [(0, .ref (a 0 0)), (1, .int (nI f)), (2, .int b), (3, .ref (a 17 j)), (4, .ref (a 18 j)), (5, .int (nI (n / 8))), (6, .int 0)] rfl ?_
    refine aw_iload C (dec D_Box_append rfl) rfl ?_
    refine aw_if_eq (tgt := 47) C (dec D_Box_append rfl) (by decide) (fun _ => ?_) (fun h_ => absurd (show (0 : Int32) = (0 : Int32) by decide) h_)
    refine aw_aload_n (i := 0) C (dec D_Box_append rfl) rfl rfl ?_
    refine gf_Box_34 C (dec D_Box_append rfl) ?_
    refine aw_aload_n (i := 3) C (dec D_Box_append rfl) rfl rfl ?_
    refine aw_iload C (dec D_Box_append rfl) rfl ?_
    refine aw_cv C ci_Box_163 [_, _] (c_Dir_pageOf _ _ _ _ _ _ j (n / 8) k hj (by omega) h0 (fun t ht => ⟨hk t (by omega), hk2 t ht⟩)) (dec D_Box_append rfl) rcD rfl fpP (Nat.le_of_ble_eq_true rfl) (by decide) ⟨by decide, by decide⟩ (fun v w2 hp => ?_) (fun _ _ h => by cases h.1)
    obtain ⟨hv, rfl⟩ := hp
    cases hv
    refine aw_istore C (dec D_Box_append rfl) (by decide) ?_
    refine AW.ls [(0, .ref (a 0 0)), (1, .int (nI f)), (2, .int b), (3, .ref (a 17 j)), (4, .ref (a 18 j)), (5, .int (nI (n / 8))), (6, .int 0), (7, .int (nI (k (n / 8))))] rfl ?_
    refine aw_iload C (dec D_Box_append rfl) rfl ?_
    refine aw_if_ne (tgt := 77) C (dec D_Box_append rfl) (by decide) (fun h_ => absurd (show (0 : Int32) = (0 : Int32) by decide) h_) (fun _ => ?_)
    refine aw_aload_n (i := 0) C (dec D_Box_append rfl) rfl rfl ?_
    refine gf_Box_34 C (dec D_Box_append rfl) ?_
    refine gf_Box_167 C (dec D_Box_append rfl) ?_
    refine aw_iload C (dec D_Box_append rfl) rfl ?_
    refine al_C9 C (k (n / 8)) (dec D_Box_append rfl) (ix_of (hk _ (Nat.le_refl _))) ?_
    refine aw_if_eq (tgt := 81) C (dec D_Box_append rfl) (by decide) (fun h74 => ?_) (fun h74 => ?_)
    · exact absurd h74 hheld
    · refine aw_iconst (v := 1) C (dec D_Box_append rfl) (by decide) ?_
      refine aw_goto (tgt := 82) C (dec D_Box_append rfl) (by decide) ?_
      refine aw_istore C (dec D_Box_append rfl) (by decide) ?_
      refine AW.ls [(0, .ref (a 0 0)), (1, .int (nI f)), (2, .int b), (3, .ref (a 17 j)), (4, .ref (a 18 j)), (5, .int (nI (n / 8))), (6, .int 0), (7, .int (nI (k (n / 8)))), (8, .int 1)] rfl ?_
      refine aw_iload C (dec D_Box_append rfl) rfl ?_
      refine aw_if_eq (tgt := 99) C (dec D_Box_append rfl) (by decide) (fun h_ => absurd h_ (show ¬ (1 : Int32) = (0 : Int32) by decide)) (fun _ => ?_)
      refine aw_aload_n (i := 0) C (dec D_Box_append rfl) rfl rfl ?_
      refine gf_Box_34 C (dec D_Box_append rfl) ?_
      refine aw_cv C ci_Box_171 [] (c_Dir_free _ _ _ _ _ _) (dec D_Box_append rfl) rcD rfl fpP (Nat.le_of_ble_eq_true rfl) (by decide) ⟨by decide, by decide⟩ (fun v w2 hp => ?_) (fun _ _ h => by cases h.1)
      obtain ⟨hv, rfl⟩ := hp
      cases hv
      rw [hfree]
      refine aw_goto (tgt := 100) C (dec D_Box_append rfl) (by decide) ?_
      refine aw_istore C (dec D_Box_append rfl) (by decide) ?_
      refine AW.ls [(0, .ref (a 0 0)), (1, .int (nI f)), (2, .int b), (3, .ref (a 17 j)), (4, .ref (a 18 j)), (5, .int (nI (n / 8))), (6, .int 0), (7, .int (nI (k (n / 8)))), (8, .int 1), (9, .int (-1))] rfl ?_
      refine aw_iload C (dec D_Box_append rfl) rfl ?_
      refine aw_if_eq (tgt := 120) C (dec D_Box_append rfl) (by decide) (fun h_ => absurd h_ (show ¬ (1 : Int32) = (0 : Int32) by decide)) (fun _ => ?_)
      refine aw_iload C (dec D_Box_append rfl) rfl ?_
      refine aw_if_ge (tgt := 120) C (dec D_Box_append rfl) (by decide) (fun h_ => absurd h_ (show ¬ (0 : Int32) ≤ (-1 : Int32) by decide)) (fun _ => ?_)
      exact aw_throw C r hex hw xi_2 (dec D_Box_append rfl) (dec D_Box_append rfl) (dec D_Box_append rfl) (dec D_Box_append rfl) (by decide) (by decide) (by decide) (by decide) ⟨rfl, rfl⟩
  · exact absurd ((nI_eq (a := n % 8) (b := 0) (by omega) (by omega)).mp h28) h8
theorem c_Box_appendF (l : Launch) (G : GG) (a : AD) (c : CC) (m : MM) (o : OO) (f j n : Nat) (b : Int32) (fo : Nat → Option Nat) (k : Nat → Nat) (p : Nat) (lp : Nat → Nat) (g : MM) (hm : ¬ cMtd c = 0) (hF9 : FOk c fo) (hf : f < 8) (hfj : fo f = some j) (hl : cI c 12 j = nI n ∧ n ≤ 488) (h8 : n % 8 = 0) (h0 : 0 < n → cI c 11 j = nI (k 0)) (hk : ∀ t, t < n / 8 → k t < 101) (hk2 : ∀ t, t + 1 < n / 8 → cA c 7 0 (k t) = nI (k (t + 1))) (hfree : cLeast c 61 40 = nI p) (hp1 : p < 101) (h : R0 c lp g) (hon : ¬ mI g 4 = 0) (hmp : mI g 1 = 1) (hW : RW c g j f) : CT l G y_Box_append (.code y_Box_append b_Box_append 10 (some .int)) 11 1 6 (Fyes G) (wld G a c m o) [.ref (a 0 0), .int (nI f), .int b] (fun r w2 => ∃ c1, TW j c c1 ∧ R0 c1 lp (mSave g f) ∧ (¬ mI (mSave g f) 4 = 0 → RW c1 (mSave g f) j f) ∧ ((r = .inl (some (.int (nI (n + 1)))) ∧ ¬ mI (mSave g f) 4 = 0 ∧ w2 = wld G a (cApp (sI (cPutN (sL c1 1 j 0) j k (n / 8) p) 13 j (nI p)) j b) m o) ∨ (r = .inr 0 ∧ mI (mSave g f) 4 = 0 ∧ w2 = wld G a c1 m o))) := by
  refine CT.of (by decide) (Nat.le_of_ble_eq_true rfl) rfl ?_
  intro E hl hG hF C r hw hex hnm
  subst hl; subst hG
  have Fw : Cw E := fun a h => by rw [hF]; exact h
  have hj := (hF9 f hf).2 j hfj
  refine aw_aload_n (i := 0) C (dec D_Box_append rfl) rfl rfl ?_
  refine aw_iload_n (i := 1) C (dec D_Box_append rfl) rfl rfl ?_
  refine aw_cv C ci_Box_152 [_] (c_Box_fileAt1 _ _ _ _ _ _ f j fo hm hF9 hf hfj) (dec D_Box_append rfl) rcB rfl fpP (Nat.le_of_ble_eq_true rfl) (by decide) ⟨by decide, by decide⟩ (fun v w2 hp => ?_) (fun _ _ h => by cases h.1)
  obtain ⟨hv, rfl⟩ := hp
  cases hv
  refine aw_astore_n (i := 3) C (dec D_Box_append rfl) rfl (by decide) ?_
  refine aw_aload_n (i := 3) C (dec D_Box_append rfl) rfl rfl ?_
  refine gf_Box_159 C hj (dec D_Box_append rfl) ?_
  refine aw_astore C (dec D_Box_append rfl) (by decide) ?_
  refine aw_aload_n (i := 3) C (dec D_Box_append rfl) rfl rfl ?_
  refine gf_Box_156 C hj (dec D_Box_append rfl) ?_
  rw [hl.1]
  refine aw_bipush (v := 8) C (dec D_Box_append rfl) (by decide) ?_
  refine aw_idiv C (dec D_Box_append rfl) (by decide) ?_
  rw [show nI n / 8 = nI (n / 8) from pk_div (d := 8) (by omega) (by omega) (by omega)]
  refine aw_istore C (dec D_Box_append rfl) (by decide) ?_
  refine AW.ls [(0, .ref (a 0 0)), (1, .int (nI f)), (2, .int b), (3, .ref (a 17 j)), (4, .ref (a 18 j)), (5, .int (nI (n / 8)))] rfl ?_
  refine aw_aload_n (i := 3) C (dec D_Box_append rfl) rfl rfl ?_
  refine gf_Box_156 C hj (dec D_Box_append rfl) ?_
  rw [hl.1]
  refine aw_bipush (v := 8) C (dec D_Box_append rfl) (by decide) ?_
  refine aw_irem C (dec D_Box_append rfl) (by decide) ?_
  rw [show nI n - nI n / 8 * 8 = nI (n % 8) from pk_rem (d := 8) (by omega) (by omega) (by omega)]
  rw [h8]
  refine aw_if_ne (tgt := 35) C (dec D_Box_append rfl) (by decide) (fun h_ => absurd (show (0 : Int32) = (0 : Int32) by decide) h_) (fun _ => ?_)
  refine aw_iconst (v := 1) C (dec D_Box_append rfl) (by decide) ?_
  refine aw_goto (tgt := 36) C (dec D_Box_append rfl) (by decide) ?_
  refine aw_istore C (dec D_Box_append rfl) (by decide) ?_
  refine AW.ls [(0, .ref (a 0 0)), (1, .int (nI f)), (2, .int b), (3, .ref (a 17 j)), (4, .ref (a 18 j)), (5, .int (nI (n / 8))), (6, .int 1)] rfl ?_
  refine aw_iload C (dec D_Box_append rfl) rfl ?_
  refine aw_if_eq (tgt := 47) C (dec D_Box_append rfl) (by decide) (fun h_ => absurd h_ (show ¬ (1 : Int32) = (0 : Int32) by decide)) (fun _ => ?_)
  refine aw_iconst (v := (-1)) C (dec D_Box_append rfl) (by decide) ?_
  refine aw_goto (tgt := 57) C (dec D_Box_append rfl) (by decide) ?_
  refine aw_istore C (dec D_Box_append rfl) (by decide) ?_
  refine AW.ls [(0, .ref (a 0 0)), (1, .int (nI f)), (2, .int b), (3, .ref (a 17 j)), (4, .ref (a 18 j)), (5, .int (nI (n / 8))), (6, .int 1), (7, .int (-1))] rfl ?_
  refine aw_iload C (dec D_Box_append rfl) rfl ?_
  refine aw_if_ne (tgt := 77) C (dec D_Box_append rfl) (by decide) (fun _ => ?_) (fun h_ => absurd h_ (show ¬ (1 : Int32) = (0 : Int32) by decide))
  refine aw_iconst (v := 1) C (dec D_Box_append rfl) (by decide) ?_
  refine aw_goto (tgt := 82) C (dec D_Box_append rfl) (by decide) ?_
  refine aw_istore C (dec D_Box_append rfl) (by decide) ?_
  refine AW.ls [(0, .ref (a 0 0)), (1, .int (nI f)), (2, .int b), (3, .ref (a 17 j)), (4, .ref (a 18 j)), (5, .int (nI (n / 8))), (6, .int 1), (7, .int (-1)), (8, .int 1)] rfl ?_
  refine aw_iload C (dec D_Box_append rfl) rfl ?_
  refine aw_if_eq (tgt := 99) C (dec D_Box_append rfl) (by decide) (fun h_ => absurd h_ (show ¬ (1 : Int32) = (0 : Int32) by decide)) (fun _ => ?_)
  refine aw_aload_n (i := 0) C (dec D_Box_append rfl) rfl rfl ?_
  refine gf_Box_34 C (dec D_Box_append rfl) ?_
  refine aw_cv C ci_Box_171 [] (c_Dir_free _ _ _ _ _ _) (dec D_Box_append rfl) rcD rfl fpP (Nat.le_of_ble_eq_true rfl) (by decide) ⟨by decide, by decide⟩ (fun v w2 hp => ?_) (fun _ _ h => by cases h.1)
  obtain ⟨hv, rfl⟩ := hp
  cases hv
  rw [hfree]
  refine aw_goto (tgt := 100) C (dec D_Box_append rfl) (by decide) ?_
  refine aw_istore C (dec D_Box_append rfl) (by decide) ?_
  refine AW.ls [(0, .ref (a 0 0)), (1, .int (nI f)), (2, .int b), (3, .ref (a 17 j)), (4, .ref (a 18 j)), (5, .int (nI (n / 8))), (6, .int 1), (7, .int (-1)), (8, .int 1), (9, .int (nI p))] rfl ?_
  refine aw_iload C (dec D_Box_append rfl) rfl ?_
  refine aw_if_eq (tgt := 120) C (dec D_Box_append rfl) (by decide) (fun h_ => absurd h_ (show ¬ (1 : Int32) = (0 : Int32) by decide)) (fun _ => ?_)
  refine aw_iload C (dec D_Box_append rfl) rfl ?_
  refine aw_if_ge (tgt := 120) C (dec D_Box_append rfl) (by decide) (fun h109 => ?_) (fun h109 => ?_)
  · refine aw_iload C (dec D_Box_append rfl) rfl ?_
    refine aw_if_eq (tgt := 143) C (dec D_Box_append rfl) (by decide) (fun h_ => absurd h_ (show ¬ (1 : Int32) = (0 : Int32) by decide)) (fun _ => ?_)
    refine aw_aload C (dec D_Box_append rfl) rfl ?_
    refine aw_aload_n (i := 0) C (dec D_Box_append rfl) rfl rfl ?_
    refine gf_Box_27 C (dec D_Box_append rfl) ?_
    refine aw_cv C ci_Box_174 [_] (s_save _ _ a c m o j f lp g hj h hon hmp hW) (dec D_Box_append rfl) (rcW hj) rfl (fpW Fw) (Nat.le_of_ble_eq_true rfl) (by decide) ⟨by decide, by decide⟩ (fun v w2 hp => ?_) (fun n w2 hp => by obtain ⟨c1, t1, r1, -, hv, rfl⟩ := hp; obtain ⟨rfl, off1⟩ := hv.thr; exact at_leave C r hex (by decide) (by decide) ⟨c1, t1, r1, fun z => absurd off1 z, .inr ⟨rfl, off1, rfl⟩⟩)
    obtain ⟨c1, t1, r1, w1, hv, rfl⟩ := hp
    obtain ⟨hv, on1⟩ := hv.ret
    subst hv
    have hj1 : j < cN c1 17 0 := by rw [t1.2.2.1]; exact hj
    have e12 : cI c1 12 j = nI n := by rw [t1.2.2.2.1 12 j (by decide) (by decide) (by decide) (.inl ⟨by decide, by decide⟩)]; exact hl.1
    have e11 : cI c1 11 j = cI c 11 j := t1.2.2.2.1 11 j (by decide) (by decide) (by decide) (.inl ⟨by decide, by decide⟩)
    refine aw_aload C (dec D_Box_append rfl) rfl ?_
    refine aw_lconst (v := 0) C (dec D_Box_append rfl) (by decide) ?_
    refine pf_Box_180 C Fw hj1 (dec D_Box_append rfl) ?_
    refine aw_goto (tgt := 154) C (dec D_Box_append rfl) (by decide) ?_
    refine aw_iload C (dec D_Box_append rfl) rfl ?_
    refine aw_if_eq (tgt := 178) C (dec D_Box_append rfl) (by decide) (fun h_ => absurd h_ (show ¬ (1 : Int32) = (0 : Int32) by decide)) (fun _ => ?_)
    refine aw_aload_n (i := 0) C (dec D_Box_append rfl) rfl rfl ?_
    refine gf_Box_34 C (dec D_Box_append rfl) ?_
    refine aw_aload_n (i := 3) C (dec D_Box_append rfl) rfl rfl ?_
    refine aw_iload C (dec D_Box_append rfl) rfl ?_
    refine aw_iload C (dec D_Box_append_1 rfl) rfl ?_
    refine aw_cv C ci_Box_186 [_, _, _] (c_Dir_putn _ _ _ _ _ _ j (n / 8) n p k (by exact hj1) ⟨e12, hl.2⟩ (by unfold pg; omega) hp1 (fun z => by show cI c1 11 j = _; rw [e11]; exact h0 (by omega)) hk (fun t ht => by show cA c1 7 0 _ = _; rw [t1.1]; exact hk2 t ht)) (dec D_Box_append_1 rfl) rcD rfl (fpW Fw) (Nat.le_of_ble_eq_true rfl) (by decide) ⟨by decide, by decide⟩ (fun v w2 hp => ?_) (fun _ _ h => by cases h.1)
    obtain ⟨hv, rfl⟩ := hp
    cases hv
    have hj3 : j < cN (cPutN (sL c1 1 j 0) j k (n / 8) p) 17 0 := by unfold cPutN; split <;> exact hj1
    have e13 : cI (cPutN (sL c1 1 j 0) j k (n / 8) p) 12 j = nI n := by unfold cPutN; split <;> exact e12
    refine aw_aload C (dec D_Box_append_1 rfl) rfl ?_
    refine aw_iload C (dec D_Box_append_1 rfl) rfl ?_
    refine pf_Box_190 C Fw hj3 (dec D_Box_append_1 rfl) ?_
    refine aw_aload C (dec D_Box_append_1 rfl) rfl ?_
    refine aw_aload_n (i := 3) C (dec D_Box_append_1 rfl) rfl rfl ?_
    refine gf_Box_156 C (by exact hj3) (dec D_Box_append_1 rfl) ?_
    refine aw_bipush (v := 8) C (dec D_Box_append_1 rfl) (by decide) ?_
    refine aw_irem C (dec D_Box_append_1 rfl) (by decide) ?_
    refine aw_iload_n (i := 2) C (dec D_Box_append_1 rfl) rfl rfl ?_
    refine aw_cv C ci_Box_193 [_, _] (c_Win_put _ _ _ _ _ _ j _ _ (by exact hj3)) (dec D_Box_append_1 rfl) (rcW (by exact hj3)) rfl (fpW Fw) (Nat.le_of_ble_eq_true rfl) (by decide) ⟨by decide, by decide⟩ (fun v w2 hp => ?_) (fun _ _ h => by cases h.1)
    obtain ⟨hv, rfl⟩ := hp
    cases hv
    refine aw_aload_n (i := 3) C (dec D_Box_append_1 rfl) rfl rfl ?_
    refine aw_dup C (dec D_Box_append_1 rfl) rfl ?_
    refine gf_Box_156 C (by exact (by exact hj3)) (dec D_Box_append_1 rfl) ?_
    refine aw_iconst (v := 1) C (dec D_Box_append_1 rfl) (by decide) ?_
    refine aw_iadd C (dec D_Box_append_1 rfl) ?_
    refine pf_Box_156 C Fw (by exact (by exact hj3)) (dec D_Box_append_1 rfl) ?_
    refine aw_aload_n (i := 3) C (dec D_Box_append_1 rfl) rfl rfl ?_
    refine gf_Box_156 C (by exact (by exact hj3)) (dec D_Box_append_1 rfl) ?_
    refine aw_ret_i C r (dec D_Box_append_1 rfl) rfl (by decide) (by decide) ?_
    exact ⟨c1, t1, r1, w1, .inl ⟨by rw [← nI_1 n, ← e13, cI_I, if_pos rfl, if_pos rfl]; rfl, on1, rfl⟩⟩
  · exact absurd (nI_pos' (by omega)) h109
theorem c_Box_appendH (l : Launch) (G : GG) (a : AD) (c : CC) (m : MM) (o : OO) (f j n : Nat) (b : Int32) (fo : Nat → Option Nat) (k : Nat → Nat) (p : Nat) (lp : Nat → Nat) (g : MM) (hm : ¬ cMtd c = 0) (hF9 : FOk c fo) (hf : f < 8) (hfj : fo f = some j) (hl : cI c 12 j = nI n ∧ n ≤ 488) (h8 : ¬ n % 8 = 0) (h0 : cI c 11 j = nI (k 0)) (hk : ∀ t, t ≤ n / 8 → k t < 101) (hk2 : ∀ t, t < n / 8 → cA c 7 0 (k t) = nI (k (t + 1))) (hheld : ¬ cA c 9 0 (k (n / 8)) = 0) (hfree : cLeast c 61 40 = nI p) (hp1 : p < 101) (hk5 : ∀ t, t ≤ n / 8 → 0 < k t ∧ ¬ k t = p) (hk6 : ∀ t, t < n / 8 → ¬ k t = k (n / 8)) (h : R0 c lp g) (hon : ¬ mI g 4 = 0) (hmp : mI g 1 = 1) (hW : RW c g j f) : CT l G y_Box_append (.code y_Box_append b_Box_append 10 (some .int)) 11 2 12 (Fyes G) (wld G a c m o) [.ref (a 0 0), .int (nI f), .int b] (fun r w2 => ∃ c1, TW j c c1 ∧ R0 c1 lp (mLoad g f (k (n / 8))) ∧ (¬ mI (mLoad g f (k (n / 8))) 4 = 0 → RW c1 (mLoad g f (k (n / 8))) j f ∧ cI c1 13 j = nI (k (n / 8))) ∧ ((r = .inl (some (.int (nI (n + 1)))) ∧ ¬ mI (mLoad g f (k (n / 8))) 4 = 0 ∧ w2 = wld G a (cApp (sI (cPutN (cPutO c1 p (k (n / 8))) j k (n / 8) p) 13 j (nI p)) j b) m o) ∨ (r = .inr 0 ∧ mI (mLoad g f (k (n / 8))) 4 = 0 ∧ w2 = wld G a c1 m o))) := by
  refine CT.of (by decide) (Nat.le_of_ble_eq_true rfl) rfl ?_
  intro E hl hG hF C r hw hex hnm
  subst hl; subst hG
  have Fw : Cw E := fun a h => by rw [hF]; exact h
  have hj := (hF9 f hf).2 j hfj
  refine aw_aload_n (i := 0) C (dec D_Box_append rfl) rfl rfl ?_
  refine aw_iload_n (i := 1) C (dec D_Box_append rfl) rfl rfl ?_
  refine aw_cv C ci_Box_152 [_] (c_Box_fileAt1 _ _ _ _ _ _ f j fo hm hF9 hf hfj) (dec D_Box_append rfl) rcB rfl fpP (Nat.le_of_ble_eq_true rfl) (by decide) ⟨by decide, by decide⟩ (fun v w2 hp => ?_) (fun _ _ h => by cases h.1)
  obtain ⟨hv, rfl⟩ := hp
  cases hv
  refine aw_astore_n (i := 3) C (dec D_Box_append rfl) rfl (by decide) ?_
  refine aw_aload_n (i := 3) C (dec D_Box_append rfl) rfl rfl ?_
  refine gf_Box_159 C hj (dec D_Box_append rfl) ?_
  refine aw_astore C (dec D_Box_append rfl) (by decide) ?_
  refine aw_aload_n (i := 3) C (dec D_Box_append rfl) rfl rfl ?_
  refine gf_Box_156 C hj (dec D_Box_append rfl) ?_
  rw [hl.1]
  refine aw_bipush (v := 8) C (dec D_Box_append rfl) (by decide) ?_
  refine aw_idiv C (dec D_Box_append rfl) (by decide) ?_
  rw [show nI n / 8 = nI (n / 8) from pk_div (d := 8) (by omega) (by omega) (by omega)]
  refine aw_istore C (dec D_Box_append rfl) (by decide) ?_
  refine AW.ls [(0, .ref (a 0 0)), (1, .int (nI f)), (2, .int b), (3, .ref (a 17 j)), (4, .ref (a 18 j)), (5, .int (nI (n / 8)))] rfl ?_
  refine aw_aload_n (i := 3) C (dec D_Box_append rfl) rfl rfl ?_
  refine gf_Box_156 C hj (dec D_Box_append rfl) ?_
  rw [hl.1]
  refine aw_bipush (v := 8) C (dec D_Box_append rfl) (by decide) ?_
  refine aw_irem C (dec D_Box_append rfl) (by decide) ?_
  rw [show nI n - nI n / 8 * 8 = nI (n % 8) from pk_rem (d := 8) (by omega) (by omega) (by omega)]
  refine aw_if_ne (tgt := 35) C (dec D_Box_append rfl) (by decide) (fun h28 => ?_) (fun h28 => ?_)
  · refine aw_iconst (v := 0) C (dec D_Box_append rfl) (by decide) ?_
    refine aw_istore C (dec D_Box_append rfl) (by decide) ?_
    refine AW.ls [(0, .ref (a 0 0)), (1, .int (nI f)), (2, .int b), (3, .ref (a 17 j)), (4, .ref (a 18 j)), (5, .int (nI (n / 8))), (6, .int 0)] rfl ?_
    refine aw_iload C (dec D_Box_append rfl) rfl ?_
    refine aw_if_eq (tgt := 47) C (dec D_Box_append rfl) (by decide) (fun _ => ?_) (fun h_ => absurd (show (0 : Int32) = (0 : Int32) by decide) h_)
    refine aw_aload_n (i := 0) C (dec D_Box_append rfl) rfl rfl ?_
    refine gf_Box_34 C (dec D_Box_append rfl) ?_
    refine aw_aload_n (i := 3) C (dec D_Box_append rfl) rfl rfl ?_
    refine aw_iload C (dec D_Box_append rfl) rfl ?_
    refine aw_cv C ci_Box_163 [_, _] (c_Dir_pageOf _ _ _ _ _ _ j (n / 8) k hj (by omega) h0 (fun t ht => ⟨hk t (by omega), hk2 t ht⟩)) (dec D_Box_append rfl) rcD rfl fpP (Nat.le_of_ble_eq_true rfl) (by decide) ⟨by decide, by decide⟩ (fun v w2 hp => ?_) (fun _ _ h => by cases h.1)
    obtain ⟨hv, rfl⟩ := hp
    cases hv
    refine aw_istore C (dec D_Box_append rfl) (by decide) ?_
    refine AW.ls [(0, .ref (a 0 0)), (1, .int (nI f)), (2, .int b), (3, .ref (a 17 j)), (4, .ref (a 18 j)), (5, .int (nI (n / 8))), (6, .int 0), (7, .int (nI (k (n / 8))))] rfl ?_
    refine aw_iload C (dec D_Box_append rfl) rfl ?_
    refine aw_if_ne (tgt := 77) C (dec D_Box_append rfl) (by decide) (fun h_ => absurd (show (0 : Int32) = (0 : Int32) by decide) h_) (fun _ => ?_)
    refine aw_aload_n (i := 0) C (dec D_Box_append rfl) rfl rfl ?_
    refine gf_Box_34 C (dec D_Box_append rfl) ?_
    refine gf_Box_167 C (dec D_Box_append rfl) ?_
    refine aw_iload C (dec D_Box_append rfl) rfl ?_
    refine al_C9 C (k (n / 8)) (dec D_Box_append rfl) (ix_of (hk _ (Nat.le_refl _))) ?_
    refine aw_if_eq (tgt := 81) C (dec D_Box_append rfl) (by decide) (fun h74 => ?_) (fun h74 => ?_)
    · exact absurd h74 hheld
    · refine aw_iconst (v := 1) C (dec D_Box_append rfl) (by decide) ?_
      refine aw_goto (tgt := 82) C (dec D_Box_append rfl) (by decide) ?_
      refine aw_istore C (dec D_Box_append rfl) (by decide) ?_
      refine AW.ls [(0, .ref (a 0 0)), (1, .int (nI f)), (2, .int b), (3, .ref (a 17 j)), (4, .ref (a 18 j)), (5, .int (nI (n / 8))), (6, .int 0), (7, .int (nI (k (n / 8)))), (8, .int 1)] rfl ?_
      refine aw_iload C (dec D_Box_append rfl) rfl ?_
      refine aw_if_eq (tgt := 99) C (dec D_Box_append rfl) (by decide) (fun h_ => absurd h_ (show ¬ (1 : Int32) = (0 : Int32) by decide)) (fun _ => ?_)
      refine aw_aload_n (i := 0) C (dec D_Box_append rfl) rfl rfl ?_
      refine gf_Box_34 C (dec D_Box_append rfl) ?_
      refine aw_cv C ci_Box_171 [] (c_Dir_free _ _ _ _ _ _) (dec D_Box_append rfl) rcD rfl fpP (Nat.le_of_ble_eq_true rfl) (by decide) ⟨by decide, by decide⟩ (fun v w2 hp => ?_) (fun _ _ h => by cases h.1)
      obtain ⟨hv, rfl⟩ := hp
      cases hv
      rw [hfree]
      refine aw_goto (tgt := 100) C (dec D_Box_append rfl) (by decide) ?_
      refine aw_istore C (dec D_Box_append rfl) (by decide) ?_
      refine AW.ls [(0, .ref (a 0 0)), (1, .int (nI f)), (2, .int b), (3, .ref (a 17 j)), (4, .ref (a 18 j)), (5, .int (nI (n / 8))), (6, .int 0), (7, .int (nI (k (n / 8)))), (8, .int 1), (9, .int (nI p))] rfl ?_
      refine aw_iload C (dec D_Box_append rfl) rfl ?_
      refine aw_if_eq (tgt := 120) C (dec D_Box_append rfl) (by decide) (fun h_ => absurd h_ (show ¬ (1 : Int32) = (0 : Int32) by decide)) (fun _ => ?_)
      refine aw_iload C (dec D_Box_append rfl) rfl ?_
      refine aw_if_ge (tgt := 120) C (dec D_Box_append rfl) (by decide) (fun h109 => ?_) (fun h109 => ?_)
      · refine aw_iload C (dec D_Box_append rfl) rfl ?_
        refine aw_if_eq (tgt := 143) C (dec D_Box_append rfl) (by decide) (fun _ => ?_) (fun h_ => absurd (show (0 : Int32) = (0 : Int32) by decide) h_)
        refine aw_aload C (dec D_Box_append rfl) rfl ?_
        refine aw_aload_n (i := 0) C (dec D_Box_append rfl) rfl rfl ?_
        refine gf_Box_27 C (dec D_Box_append rfl) ?_
        refine aw_iload C (dec D_Box_append rfl) rfl ?_
        refine aw_cv C ci_Box_183 [_, _] (c_Win_loadS _ _ a c m o j f (k (n / 8)) lp g hj (hk _ (Nat.le_refl _)) h hon hmp hW) (dec D_Box_append rfl) (rcW hj) rfl (fpW Fw) (Nat.le_of_ble_eq_true rfl) (by decide) ⟨by decide, by decide⟩ (fun v w2 hp => ?_) (fun n w2 hp => by obtain ⟨c1, t1, r1, -, hv, rfl⟩ := hp; obtain ⟨rfl, off1⟩ := hv.thr; exact at_leave C r hex (by decide) (by decide) ⟨c1, t1, r1, fun z => absurd off1 z, .inr ⟨rfl, off1, rfl⟩⟩)
        obtain ⟨c1, t1, r1, w1, hv, rfl⟩ := hp
        obtain ⟨hv, on1⟩ := hv.ret
        subst hv
        have hj1 : j < cN c1 17 0 := by rw [t1.2.2.1]; exact hj
        have e12 : cI c1 12 j = nI n := by rw [t1.2.2.2.1 12 j (by decide) (by decide) (by decide) (.inl ⟨by decide, by decide⟩)]; exact hl.1
        have e11 : cI c1 11 j = cI c 11 j := t1.2.2.2.1 11 j (by decide) (by decide) (by decide) (.inl ⟨by decide, by decide⟩)
        refine aw_iload C (dec D_Box_append rfl) rfl ?_
        refine aw_if_eq (tgt := 178) C (dec D_Box_append rfl) (by decide) (fun h_ => absurd h_ (show ¬ (1 : Int32) = (0 : Int32) by decide)) (fun _ => ?_)
        refine aw_aload_n (i := 0) C (dec D_Box_append rfl) rfl rfl ?_
        refine gf_Box_34 C (dec D_Box_append rfl) ?_
        refine aw_aload_n (i := 3) C (dec D_Box_append rfl) rfl rfl ?_
        refine aw_iload C (dec D_Box_append rfl) rfl ?_
        refine aw_iload C (dec D_Box_append_1 rfl) rfl ?_
        refine aw_cv C ci_Box_186 [_, _, _] (c_Dir_puto _ _ _ _ _ _ j (n / 8) n p k hj1 ⟨e12, hl.2⟩ (by unfold pg; omega) hp1 (by rw [e11]; exact h0) (fun t ht => ⟨(hk5 t ht).1, hk t ht, (hk5 t ht).2⟩) (fun t ht => ⟨hk6 t ht, by rw [t1.1]; exact hk2 t ht⟩)) (dec D_Box_append_1 rfl) rcD rfl (fpW Fw) (Nat.le_of_ble_eq_true rfl) (by decide) ⟨by decide, by decide⟩ (fun v w2 hp => ?_) (fun _ _ h => by cases h.1)
        obtain ⟨hv, rfl⟩ := hp
        cases hv
        have hj3 : j < cN (cPutN (cPutO c1 p (k (n / 8))) j k (n / 8) p) 17 0 := by unfold cPutN; split <;> exact hj1
        have e13 : cI (cPutN (cPutO c1 p (k (n / 8))) j k (n / 8) p) 12 j = nI n := by unfold cPutN; split <;> exact e12
        refine aw_aload C (dec D_Box_append_1 rfl) rfl ?_
        refine aw_iload C (dec D_Box_append_1 rfl) rfl ?_
        refine pf_Box_190 C Fw hj3 (dec D_Box_append_1 rfl) ?_
        refine aw_aload C (dec D_Box_append_1 rfl) rfl ?_
        refine aw_aload_n (i := 3) C (dec D_Box_append_1 rfl) rfl rfl ?_
        refine gf_Box_156 C (by exact hj3) (dec D_Box_append_1 rfl) ?_
        refine aw_bipush (v := 8) C (dec D_Box_append_1 rfl) (by decide) ?_
        refine aw_irem C (dec D_Box_append_1 rfl) (by decide) ?_
        refine aw_iload_n (i := 2) C (dec D_Box_append_1 rfl) rfl rfl ?_
        refine aw_cv C ci_Box_193 [_, _] (c_Win_put _ _ _ _ _ _ j _ _ (by exact hj3)) (dec D_Box_append_1 rfl) (rcW (by exact hj3)) rfl (fpW Fw) (Nat.le_of_ble_eq_true rfl) (by decide) ⟨by decide, by decide⟩ (fun v w2 hp => ?_) (fun _ _ h => by cases h.1)
        obtain ⟨hv, rfl⟩ := hp
        cases hv
        refine aw_aload_n (i := 3) C (dec D_Box_append_1 rfl) rfl rfl ?_
        refine aw_dup C (dec D_Box_append_1 rfl) rfl ?_
        refine gf_Box_156 C (by exact (by exact hj3)) (dec D_Box_append_1 rfl) ?_
        refine aw_iconst (v := 1) C (dec D_Box_append_1 rfl) (by decide) ?_
        refine aw_iadd C (dec D_Box_append_1 rfl) ?_
        refine pf_Box_156 C Fw (by exact (by exact hj3)) (dec D_Box_append_1 rfl) ?_
        refine aw_aload_n (i := 3) C (dec D_Box_append_1 rfl) rfl rfl ?_
        refine gf_Box_156 C (by exact (by exact hj3)) (dec D_Box_append_1 rfl) ?_
        refine aw_ret_i C r (dec D_Box_append_1 rfl) rfl (by decide) (by decide) ?_
        exact ⟨c1, t1, r1, w1, .inl ⟨by rw [← nI_1 n, ← e13, cI_I, if_pos rfl, if_pos rfl]; rfl, on1, rfl⟩⟩
      · exact absurd (nI_pos' (by omega)) h109
  · exact absurd ((nI_eq (a := n % 8) (b := 0) (by omega) (by omega)).mp h28) h8
theorem c_Box_appendN (l : Launch) (G : GG) (a : AD) (c : CC) (m : MM) (o : OO) (f j n : Nat) (b : Int32) (fo : Nat → Option Nat) (k : Nat → Nat) (lp : Nat → Nat) (g : MM) (hm : ¬ cMtd c = 0) (hF9 : FOk c fo) (hf : f < 8) (hfj : fo f = some j) (hl : cI c 12 j = nI n ∧ n ≤ 488) (h8 : ¬ n % 8 = 0) (h0 : cI c 11 j = nI (k 0)) (hk : ∀ t, t ≤ n / 8 → k t < 101) (hk2 : ∀ t, t < n / 8 → cA c 7 0 (k t) = nI (k (t + 1))) (hheld : cA c 9 0 (k (n / 8)) = 0) (h : R0 c lp g) (hon : ¬ mI g 4 = 0) (hmp : mI g 1 = 1) (hW : RW c g j f) : CT l G y_Box_append (.code y_Box_append b_Box_append 10 (some .int)) 11 2 12 (Fyes G) (wld G a c m o) [.ref (a 0 0), .int (nI f), .int b] (fun r w2 => ∃ c1, TW j c c1 ∧ R0 c1 lp (mLoad g f (k (n / 8))) ∧ (¬ mI (mLoad g f (k (n / 8))) 4 = 0 → RW c1 (mLoad g f (k (n / 8))) j f ∧ cI c1 13 j = nI (k (n / 8))) ∧ ((r = .inl (some (.int (nI (n + 1)))) ∧ ¬ mI (mLoad g f (k (n / 8))) 4 = 0 ∧ w2 = wld G a (cApp c1 j b) m o) ∨ (r = .inr 0 ∧ mI (mLoad g f (k (n / 8))) 4 = 0 ∧ w2 = wld G a c1 m o))) := by
  refine CT.of (by decide) (Nat.le_of_ble_eq_true rfl) rfl ?_
  intro E hl hG hF C r hw hex hnm
  subst hl; subst hG
  have Fw : Cw E := fun a h => by rw [hF]; exact h
  have hj := (hF9 f hf).2 j hfj
  refine aw_aload_n (i := 0) C (dec D_Box_append rfl) rfl rfl ?_
  refine aw_iload_n (i := 1) C (dec D_Box_append rfl) rfl rfl ?_
  refine aw_cv C ci_Box_152 [_] (c_Box_fileAt1 _ _ _ _ _ _ f j fo hm hF9 hf hfj) (dec D_Box_append rfl) rcB rfl fpP (Nat.le_of_ble_eq_true rfl) (by decide) ⟨by decide, by decide⟩ (fun v w2 hp => ?_) (fun _ _ h => by cases h.1)
  obtain ⟨hv, rfl⟩ := hp
  cases hv
  refine aw_astore_n (i := 3) C (dec D_Box_append rfl) rfl (by decide) ?_
  refine aw_aload_n (i := 3) C (dec D_Box_append rfl) rfl rfl ?_
  refine gf_Box_159 C hj (dec D_Box_append rfl) ?_
  refine aw_astore C (dec D_Box_append rfl) (by decide) ?_
  refine aw_aload_n (i := 3) C (dec D_Box_append rfl) rfl rfl ?_
  refine gf_Box_156 C hj (dec D_Box_append rfl) ?_
  rw [hl.1]
  refine aw_bipush (v := 8) C (dec D_Box_append rfl) (by decide) ?_
  refine aw_idiv C (dec D_Box_append rfl) (by decide) ?_
  rw [show nI n / 8 = nI (n / 8) from pk_div (d := 8) (by omega) (by omega) (by omega)]
  refine aw_istore C (dec D_Box_append rfl) (by decide) ?_
  refine AW.ls [(0, .ref (a 0 0)), (1, .int (nI f)), (2, .int b), (3, .ref (a 17 j)), (4, .ref (a 18 j)), (5, .int (nI (n / 8)))] rfl ?_
  refine aw_aload_n (i := 3) C (dec D_Box_append rfl) rfl rfl ?_
  refine gf_Box_156 C hj (dec D_Box_append rfl) ?_
  rw [hl.1]
  refine aw_bipush (v := 8) C (dec D_Box_append rfl) (by decide) ?_
  refine aw_irem C (dec D_Box_append rfl) (by decide) ?_
  rw [show nI n - nI n / 8 * 8 = nI (n % 8) from pk_rem (d := 8) (by omega) (by omega) (by omega)]
  refine aw_if_ne (tgt := 35) C (dec D_Box_append rfl) (by decide) (fun h28 => ?_) (fun h28 => ?_)
  · refine aw_iconst (v := 0) C (dec D_Box_append rfl) (by decide) ?_
    refine aw_istore C (dec D_Box_append rfl) (by decide) ?_
    refine AW.ls [(0, .ref (a 0 0)), (1, .int (nI f)), (2, .int b), (3, .ref (a 17 j)), (4, .ref (a 18 j)), (5, .int (nI (n / 8))), (6, .int 0)] rfl ?_
    refine aw_iload C (dec D_Box_append rfl) rfl ?_
    refine aw_if_eq (tgt := 47) C (dec D_Box_append rfl) (by decide) (fun _ => ?_) (fun h_ => absurd (show (0 : Int32) = (0 : Int32) by decide) h_)
    refine aw_aload_n (i := 0) C (dec D_Box_append rfl) rfl rfl ?_
    refine gf_Box_34 C (dec D_Box_append rfl) ?_
    refine aw_aload_n (i := 3) C (dec D_Box_append rfl) rfl rfl ?_
    refine aw_iload C (dec D_Box_append rfl) rfl ?_
    refine aw_cv C ci_Box_163 [_, _] (c_Dir_pageOf _ _ _ _ _ _ j (n / 8) k hj (by omega) h0 (fun t ht => ⟨hk t (by omega), hk2 t ht⟩)) (dec D_Box_append rfl) rcD rfl fpP (Nat.le_of_ble_eq_true rfl) (by decide) ⟨by decide, by decide⟩ (fun v w2 hp => ?_) (fun _ _ h => by cases h.1)
    obtain ⟨hv, rfl⟩ := hp
    cases hv
    refine aw_istore C (dec D_Box_append rfl) (by decide) ?_
    refine AW.ls [(0, .ref (a 0 0)), (1, .int (nI f)), (2, .int b), (3, .ref (a 17 j)), (4, .ref (a 18 j)), (5, .int (nI (n / 8))), (6, .int 0), (7, .int (nI (k (n / 8))))] rfl ?_
    refine aw_iload C (dec D_Box_append rfl) rfl ?_
    refine aw_if_ne (tgt := 77) C (dec D_Box_append rfl) (by decide) (fun h_ => absurd (show (0 : Int32) = (0 : Int32) by decide) h_) (fun _ => ?_)
    refine aw_aload_n (i := 0) C (dec D_Box_append rfl) rfl rfl ?_
    refine gf_Box_34 C (dec D_Box_append rfl) ?_
    refine gf_Box_167 C (dec D_Box_append rfl) ?_
    refine aw_iload C (dec D_Box_append rfl) rfl ?_
    refine al_C9 C (k (n / 8)) (dec D_Box_append rfl) (ix_of (hk _ (Nat.le_refl _))) ?_
    refine aw_if_eq (tgt := 81) C (dec D_Box_append rfl) (by decide) (fun h74 => ?_) (fun h74 => ?_)
    · refine aw_iconst (v := 0) C (dec D_Box_append rfl) (by decide) ?_
      refine aw_istore C (dec D_Box_append rfl) (by decide) ?_
      refine AW.ls [(0, .ref (a 0 0)), (1, .int (nI f)), (2, .int b), (3, .ref (a 17 j)), (4, .ref (a 18 j)), (5, .int (nI (n / 8))), (6, .int 0), (7, .int (nI (k (n / 8)))), (8, .int 0)] rfl ?_
      refine aw_iload C (dec D_Box_append rfl) rfl ?_
      refine aw_if_eq (tgt := 99) C (dec D_Box_append rfl) (by decide) (fun _ => ?_) (fun h_ => absurd (show (0 : Int32) = (0 : Int32) by decide) h_)
      refine aw_iconst (v := (-1)) C (dec D_Box_append rfl) (by decide) ?_
      refine aw_istore C (dec D_Box_append rfl) (by decide) ?_
      refine AW.ls [(0, .ref (a 0 0)), (1, .int (nI f)), (2, .int b), (3, .ref (a 17 j)), (4, .ref (a 18 j)), (5, .int (nI (n / 8))), (6, .int 0), (7, .int (nI (k (n / 8)))), (8, .int 0), (9, .int (-1))] rfl ?_
      refine aw_iload C (dec D_Box_append rfl) rfl ?_
      refine aw_if_eq (tgt := 120) C (dec D_Box_append rfl) (by decide) (fun _ => ?_) (fun h_ => absurd (show (0 : Int32) = (0 : Int32) by decide) h_)
      refine aw_iload C (dec D_Box_append rfl) rfl ?_
      refine aw_if_eq (tgt := 143) C (dec D_Box_append rfl) (by decide) (fun _ => ?_) (fun h_ => absurd (show (0 : Int32) = (0 : Int32) by decide) h_)
      refine aw_aload C (dec D_Box_append rfl) rfl ?_
      refine aw_aload_n (i := 0) C (dec D_Box_append rfl) rfl rfl ?_
      refine gf_Box_27 C (dec D_Box_append rfl) ?_
      refine aw_iload C (dec D_Box_append rfl) rfl ?_
      refine aw_cv C ci_Box_183 [_, _] (c_Win_loadS _ _ a c m o j f (k (n / 8)) lp g hj (hk _ (Nat.le_refl _)) h hon hmp hW) (dec D_Box_append rfl) (rcW hj) rfl (fpW Fw) (Nat.le_of_ble_eq_true rfl) (by decide) ⟨by decide, by decide⟩ (fun v w2 hp => ?_) (fun n w2 hp => by obtain ⟨c1, t1, r1, -, hv, rfl⟩ := hp; obtain ⟨rfl, off1⟩ := hv.thr; exact at_leave C r hex (by decide) (by decide) ⟨c1, t1, r1, fun z => absurd off1 z, .inr ⟨rfl, off1, rfl⟩⟩)
      obtain ⟨c1, t1, r1, w1, hv, rfl⟩ := hp
      obtain ⟨hv, on1⟩ := hv.ret
      subst hv
      have hj1 : j < cN c1 17 0 := by rw [t1.2.2.1]; exact hj
      have e12 : cI c1 12 j = nI n := by rw [t1.2.2.2.1 12 j (by decide) (by decide) (by decide) (.inl ⟨by decide, by decide⟩)]; exact hl.1
      have e11 : cI c1 11 j = cI c 11 j := t1.2.2.2.1 11 j (by decide) (by decide) (by decide) (.inl ⟨by decide, by decide⟩)
      refine aw_iload C (dec D_Box_append rfl) rfl ?_
      refine aw_if_eq (tgt := 178) C (dec D_Box_append rfl) (by decide) (fun _ => ?_) (fun h_ => absurd (show (0 : Int32) = (0 : Int32) by decide) h_)
      refine aw_aload C (dec D_Box_append_1 rfl) rfl ?_
      refine aw_aload_n (i := 3) C (dec D_Box_append_1 rfl) rfl rfl ?_
      refine gf_Box_156 C hj1 (dec D_Box_append_1 rfl) ?_
      refine aw_bipush (v := 8) C (dec D_Box_append_1 rfl) (by decide) ?_
      refine aw_irem C (dec D_Box_append_1 rfl) (by decide) ?_
      refine aw_iload_n (i := 2) C (dec D_Box_append_1 rfl) rfl rfl ?_
      refine aw_cv C ci_Box_193 [_, _] (c_Win_put _ _ _ _ _ _ j _ _ hj1) (dec D_Box_append_1 rfl) (rcW hj1) rfl (fpW Fw) (Nat.le_of_ble_eq_true rfl) (by decide) ⟨by decide, by decide⟩ (fun v w2 hp => ?_) (fun _ _ h => by cases h.1)
      obtain ⟨hv, rfl⟩ := hp
      cases hv
      refine aw_aload_n (i := 3) C (dec D_Box_append_1 rfl) rfl rfl ?_
      refine aw_dup C (dec D_Box_append_1 rfl) rfl ?_
      refine gf_Box_156 C (by exact hj1) (dec D_Box_append_1 rfl) ?_
      refine aw_iconst (v := 1) C (dec D_Box_append_1 rfl) (by decide) ?_
      refine aw_iadd C (dec D_Box_append_1 rfl) ?_
      refine pf_Box_156 C Fw (by exact hj1) (dec D_Box_append_1 rfl) ?_
      refine aw_aload_n (i := 3) C (dec D_Box_append_1 rfl) rfl rfl ?_
      refine gf_Box_156 C (by exact hj1) (dec D_Box_append_1 rfl) ?_
      refine aw_ret_i C r (dec D_Box_append_1 rfl) rfl (by decide) (by decide) ?_
      exact ⟨c1, t1, r1, w1, .inl ⟨by rw [← nI_1 n, ← e12, cI_I, if_pos rfl, if_pos rfl]; rfl, on1, rfl⟩⟩
    · exact absurd hheld h74
  · exact absurd ((nI_eq (a := n % 8) (b := 0) (by omega) (by omega)).mp h28) h8
