/-! the box: fileAt, forget; printed by tools/m59.py -/
theorem wth_in {f n : Nat} (hf : f ≤ n) (hn : n < 2 ^ 31) : wth (nI f) 0 (nI n) = 1 := by
  unfold wth; rw [if_neg (nI_pos (by omega)), if_neg (nI_nlt hf hn)]
theorem wth_out {x : Int32} {n : Nat} (hn : n + 1 < 2 ^ 31) (h : ¬ wth x 0 (nI n) = 0) : ∃ f, f ≤ n ∧ x = nI f := by
  unfold wth at h
  split at h
  · exact absurd rfl h
  · rename_i h1
    split at h
    · exact absurd rfl h
    · rename_i h2
      obtain ⟨f, hf, e⟩ := ix_rg (N := n + 1) hn h1 (i_lts hn h2)
      exact ⟨f, by omega, e⟩
theorem wth_01 (x y z : Int32) : B01 (wth x y z) := by
  unfold wth; split
  · exact .inl rfl
  · split
    · exact .inl rfl
    · exact .inr rfl
theorem c_Box_fileAt1 (l : Launch) (G : GG) (a : AD) (c : CC) (m : MM) (o : OO) (f j : Nat) (fo : Nat → Option Nat) (hm : ¬ cMtd c = 0) (hF9 : FOk c fo) (hf : f < 8) (hfj : fo f = some j) : CT l G y_Box_fileAt (.code y_Box_fileAt b_Box_fileAt 2 (some (.object "BubbleBox$StoredFile"))) 1 0 0 Fno (wld G a c m o) [.ref (a 0 0), .int (nI f)] (fun r w2 => r = .inl (some (.ref (a 17 j))) ∧ w2 = wld G a c m o) := by
  refine CT.of (by decide) (Nat.le_of_ble_eq_true rfl) rfl ?_
  intro E hl hG hF C r hw hex hnm
  subst hl; subst hG
  have h9 := hF9 f hf
  refine aw_aload_n (i := 0) C (dec D_Box_fileAt rfl) rfl rfl ?_
  refine aw_cv C ci_Box_62 [] (c_Box_isMounted _ _ _ _ _ _) (dec D_Box_fileAt rfl) rcB rfl fpP (Nat.le_of_ble_eq_true rfl) (by decide) ⟨by decide, by decide⟩ (fun v w2 hp => ?_) (fun _ _ h => by cases h.1)
  obtain ⟨hv, rfl⟩ := hp
  cases hv
  refine aw_cs C ci_Box_66 [_] (c_Box_want1 _ _ _ _ _ _ _ hm) (dec D_Box_fileAt rfl) rfl fpP (Nat.le_of_ble_eq_true rfl) (by decide) ⟨by decide, by decide⟩ (fun v w2 hp => ?_) (fun _ _ h => by cases h.1)
  obtain ⟨hv, rfl⟩ := hp
  cases hv
  refine aw_iload_n (i := 1) C (dec D_Box_fileAt rfl) rfl rfl ?_
  refine aw_iconst (v := 0) C (dec D_Box_fileAt rfl) (by decide) ?_
  refine aw_bipush (v := 7) C (dec D_Box_fileAt rfl) (by decide) ?_
  refine aw_cs C ci_Box_70 [_, _, _] (c_Box_within _ _ _ _ _ _ _ _ _) (dec D_Box_fileAt rfl) rfl fpP (Nat.le_of_ble_eq_true rfl) (by decide) ⟨by decide, by decide⟩ (fun v w2 hp => ?_) (fun _ _ h => by cases h.1)
  obtain ⟨hv, rfl⟩ := hp
  cases hv
  rw [show wth (nI f) 0 7 = 1 from wth_in (n := 7) (by omega) (by omega)]
  refine aw_if_eq (tgt := 33) C (dec D_Box_fileAt rfl) (by decide) (fun h_ => absurd h_ (show ¬ (1 : Int32) = (0 : Int32) by decide)) (fun _ => ?_)
  refine aw_aload_n (i := 0) C (dec D_Box_fileAt rfl) rfl rfl ?_
  refine gf_Box_34 C (dec D_Box_fileAt rfl) ?_
  refine gf_Box_74 C (dec D_Box_fileAt rfl) ?_
  refine aw_iload_n (i := 1) C (dec D_Box_fileAt rfl) rfl rfl ?_
  refine al_C6 C f (dec D_Box_fileAt rfl) (ix_of hf) ?_
  rw [h9.1, hfj]
  refine aw_ifnull C (dec D_Box_fileAt rfl) ?_
  refine aw_iconst (v := 1) C (dec D_Box_fileAt rfl) (by decide) ?_
  refine aw_goto (tgt := 34) C (dec D_Box_fileAt rfl) (by decide) ?_
  refine aw_cs C ci_Box_78 [_] (c_Box_argue1 _ _ _ _ _ _ _ (show ¬ (1 : Int32) = 0 by decide)) (dec D_Box_fileAt rfl) rfl fpP (Nat.le_of_ble_eq_true rfl) (by decide) ⟨by decide, by decide⟩ (fun v w2 hp => ?_) (fun _ _ h => by cases h.1)
  obtain ⟨hv, rfl⟩ := hp
  cases hv
  refine aw_aload_n (i := 0) C (dec D_Box_fileAt rfl) rfl rfl ?_
  refine gf_Box_34 C (dec D_Box_fileAt rfl) ?_
  refine gf_Box_74 C (dec D_Box_fileAt rfl) ?_
  refine aw_iload_n (i := 1) C (dec D_Box_fileAt rfl) rfl rfl ?_
  refine al_C6 C f (dec D_Box_fileAt rfl) (ix_of hf) ?_
  rw [h9.1, hfj]
  exact aw_ret_a C r (.inl ⟨_, rfl⟩) (.inr ⟨_, rfl⟩) (dec D_Box_fileAt rfl) (by decide) (by decide) ⟨rfl, rfl⟩
theorem c_Box_fileAtm (l : Launch) (G : GG) (a : AD) (c : CC) (m : MM) (o : OO) (x : Int32) (hm : cMtd c = 0) : CT l G y_Box_fileAt (.code y_Box_fileAt b_Box_fileAt 2 (some (.object "BubbleBox$StoredFile"))) 7 1 6 Fno (wld G a c m o) [.ref (a 0 0), .int x] (fun r w2 => r = .inr 0 ∧ w2 = wld G a c m o) := by
  refine CT.of (by decide) (Nat.le_of_ble_eq_true rfl) rfl ?_
  intro E hl hG hF C r hw hex hnm
  subst hl; subst hG
  refine aw_aload_n (i := 0) C (dec D_Box_fileAt rfl) rfl rfl ?_
  refine aw_cv C ci_Box_62 [] (c_Box_isMounted _ _ _ _ _ _) (dec D_Box_fileAt rfl) rcB rfl fpP (Nat.le_of_ble_eq_true rfl) (by decide) ⟨by decide, by decide⟩ (fun v w2 hp => ?_) (fun _ _ h => by cases h.1)
  obtain ⟨hv, rfl⟩ := hp
  cases hv
  rw [hm]
  refine aw_cs C ci_Box_66 [_] (c_Box_want0 _ _ _ _ _ _) (dec D_Box_fileAt rfl) rfl fpP (Nat.le_of_ble_eq_true rfl) (by decide) ⟨by decide, by decide⟩ (fun v w2 hp => by cases hp.1) (fun n w2 hp => ?_)
  obtain ⟨hv, rfl⟩ := hp
  cases hv
  exact at_leave C r hex (by decide) (by decide) (⟨rfl, rfl⟩)
theorem c_Box_fileAtx (l : Launch) (G : GG) (a : AD) (c : CC) (m : MM) (o : OO) (x : Int32) (fo : Nat → Option Nat) (hm : ¬ cMtd c = 0) (hF9 : FOk c fo) (hno : ∀ f, f < 8 → x = nI f → fo f = none) : CT l G y_Box_fileAt (.code y_Box_fileAt b_Box_fileAt 2 (some (.object "BubbleBox$StoredFile"))) 7 1 6 Fno (wld G a c m o) [.ref (a 0 0), .int x] (fun r w2 => r = .inr 1 ∧ w2 = wld G a c m o) := by
  refine CT.of (by decide) (Nat.le_of_ble_eq_true rfl) rfl ?_
  intro E hl hG hF C r hw hex hnm
  subst hl; subst hG
  refine aw_aload_n (i := 0) C (dec D_Box_fileAt rfl) rfl rfl ?_
  refine aw_cv C ci_Box_62 [] (c_Box_isMounted _ _ _ _ _ _) (dec D_Box_fileAt rfl) rcB rfl fpP (Nat.le_of_ble_eq_true rfl) (by decide) ⟨by decide, by decide⟩ (fun v w2 hp => ?_) (fun _ _ h => by cases h.1)
  obtain ⟨hv, rfl⟩ := hp
  cases hv
  refine aw_cs C ci_Box_66 [_] (c_Box_want1 _ _ _ _ _ _ _ hm) (dec D_Box_fileAt rfl) rfl fpP (Nat.le_of_ble_eq_true rfl) (by decide) ⟨by decide, by decide⟩ (fun v w2 hp => ?_) (fun _ _ h => by cases h.1)
  obtain ⟨hv, rfl⟩ := hp
  cases hv
  refine aw_iload_n (i := 1) C (dec D_Box_fileAt rfl) rfl rfl ?_
  refine aw_iconst (v := 0) C (dec D_Box_fileAt rfl) (by decide) ?_
  refine aw_bipush (v := 7) C (dec D_Box_fileAt rfl) (by decide) ?_
  refine aw_cs C ci_Box_70 [_, _, _] (c_Box_within _ _ _ _ _ _ _ _ _) (dec D_Box_fileAt rfl) rfl fpP (Nat.le_of_ble_eq_true rfl) (by decide) ⟨by decide, by decide⟩ (fun v w2 hp => ?_) (fun _ _ h => by cases h.1)
  obtain ⟨hv, rfl⟩ := hp
  cases hv
  refine aw_if_eq (tgt := 33) C (dec D_Box_fileAt rfl) (by decide) (fun h14 => ?_) (fun h14 => ?_)
  · refine aw_iconst (v := 0) C (dec D_Box_fileAt rfl) (by decide) ?_
    refine aw_cs C ci_Box_78 [_] (c_Box_argue0 _ _ _ _ _ _) (dec D_Box_fileAt rfl) rfl fpP (Nat.le_of_ble_eq_true rfl) (by decide) ⟨by decide, by decide⟩ (fun v w2 hp => by cases hp.1) (fun n w2 hp => ?_)
    obtain ⟨hv, rfl⟩ := hp
    cases hv
    exact at_leave C r hex (by decide) (by decide) (⟨rfl, rfl⟩)
  · obtain ⟨f, hf7, rfl⟩ := wth_out (n := 7) (by omega) h14
    have hf : f < 8 := by omega
    refine aw_aload_n (i := 0) C (dec D_Box_fileAt rfl) rfl rfl ?_
    refine gf_Box_34 C (dec D_Box_fileAt rfl) ?_
    refine gf_Box_74 C (dec D_Box_fileAt rfl) ?_
    refine aw_iload_n (i := 1) C (dec D_Box_fileAt rfl) rfl rfl ?_
    refine al_C6 C f (dec D_Box_fileAt rfl) (ix_of hf) ?_
    rw [(hF9 f hf).1, hno f hf rfl]
    refine aw_ifnullN (tgt := 33) C (dec D_Box_fileAt rfl) (by decide) ?_
    refine aw_iconst (v := 0) C (dec D_Box_fileAt rfl) (by decide) ?_
    refine aw_cs C ci_Box_78 [_] (c_Box_argue0 _ _ _ _ _ _) (dec D_Box_fileAt rfl) rfl fpP (Nat.le_of_ble_eq_true rfl) (by decide) ⟨by decide, by decide⟩ (fun v w2 hp => by cases hp.1) (fun n w2 hp => ?_)
    obtain ⟨hv, rfl⟩ := hp
    cases hv
    exact at_leave C r hex (by decide) (by decide) (⟨rfl, rfl⟩)
