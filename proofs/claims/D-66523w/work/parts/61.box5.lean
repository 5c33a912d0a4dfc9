/-! the box: pageOf, served; printed by tools/m61.py -/
theorem c_Box_pageOf1 (l : Launch) (G : GG) (a : AD) (c : CC) (m : MM) (o : OO) (f j n i : Nat) (fo : Nat → Option Nat) (k : Nat → Nat) (hm : ¬ cMtd c = 0) (hF9 : FOk c fo) (hf : f < 8) (hfj : fo f = some j) (hl : cI c 12 j = nI n ∧ n ≤ 488) (hi9 : i < pg n) (h0 : cI c 11 j = nI (k 0)) (hk : ∀ t, t < i → k t < 101 ∧ cA c 7 0 (k t) = nI (k (t + 1))) : CT l G y_Box_pageOf (.code y_Box_pageOf b_Box_pageOf 4 (some .int)) 2 0 0 Fno (wld G a c m o) [.ref (a 0 0), .int (nI f), .int (nI i)] (fun r w2 => r = .inl (some (.int (nI (k i)))) ∧ w2 = wld G a c m o) := by
  refine CT.of (by decide) (Nat.le_of_ble_eq_true rfl) rfl ?_
  intro E hl hG hF C r hw hex hnm
  subst hl; subst hG
  have hj := (hF9 f hf).2 j hfj
  have hpg := pg_le hl.2
  refine aw_aload_n (i := 0) C (dec D_Box_pageOf rfl) rfl rfl ?_
  refine aw_iload_n (i := 1) C (dec D_Box_pageOf rfl) rfl rfl ?_
  refine aw_cv C ci_Box_152 [_] (c_Box_fileAt1 _ _ _ _ _ _ f j fo hm hF9 hf hfj) (dec D_Box_pageOf rfl) rcB rfl fpP (Nat.le_of_ble_eq_true rfl) (by decide) ⟨by decide, by decide⟩ (fun v w2 hp => ?_) (fun _ _ h => by cases h.1)
  obtain ⟨hv, rfl⟩ := hp
  cases hv
  refine aw_astore_n (i := 3) C (dec D_Box_pageOf rfl) rfl (by decide) ?_
  refine aw_iload_n (i := 2) C (dec D_Box_pageOf rfl) rfl rfl ?_
  refine aw_iconst (v := 0) C (dec D_Box_pageOf rfl) (by decide) ?_
  refine aw_aload_n (i := 3) C (dec D_Box_pageOf rfl) rfl rfl ?_
  refine aw_cv C ci_Box_216 [] (c_File_pages _ _ _ _ _ _ j n hj hl) (dec D_Box_pageOf rfl) (rcF hj) rfl fpP (Nat.le_of_ble_eq_true rfl) (by decide) ⟨by decide, by decide⟩ (fun v w2 hp => ?_) (fun _ _ h => by cases h.1)
  obtain ⟨hv, rfl⟩ := hp
  cases hv
  refine aw_iconst (v := 1) C (dec D_Box_pageOf rfl) (by decide) ?_
  refine aw_isub C (dec D_Box_pageOf rfl) ?_
  rw [show (1 : Int32) = nI 1 from rfl, pk_sub (by omega)]
  refine aw_cs C ci_Box_70 [_, _, _] (c_Box_within _ _ _ _ _ _ _ _ _) (dec D_Box_pageOf rfl) rfl fpP (Nat.le_of_ble_eq_true rfl) (by decide) ⟨by decide, by decide⟩ (fun v w2 hp => ?_) (fun _ _ h => by cases h.1)
  obtain ⟨hv, rfl⟩ := hp
  cases hv
  rw [show wth (nI i) 0 (nI (pg n - 1)) = 1 from wth_in (by omega) (by omega)]
  refine aw_if_eq (tgt := 32) C (dec D_Box_pageOf rfl) (by decide) (fun h_ => absurd h_ (show ¬ (1 : Int32) = (0 : Int32) by decide)) (fun _ => ?_)
  refine aw_aload_n (i := 0) C (dec D_Box_pageOf rfl) rfl rfl ?_
  refine gf_Box_34 C (dec D_Box_pageOf rfl) ?_
  refine aw_aload_n (i := 3) C (dec D_Box_pageOf rfl) rfl rfl ?_
  refine aw_iload_n (i := 2) C (dec D_Box_pageOf rfl) rfl rfl ?_
  refine aw_cv C ci_Box_163 [_, _] (c_Dir_pageOf _ _ _ _ _ _ j i k hj (by omega) h0 hk) (dec D_Box_pageOf rfl) rcD rfl fpP (Nat.le_of_ble_eq_true rfl) (by decide) ⟨by decide, by decide⟩ (fun v w2 hp => ?_) (fun _ _ h => by cases h.1)
  obtain ⟨hv, rfl⟩ := hp
  cases hv
  refine aw_goto (tgt := 33) C (dec D_Box_pageOf rfl) (by decide) ?_
  refine aw_ret_i C r (dec D_Box_pageOf rfl) rfl (by decide) (by decide) ?_
  exact ⟨rfl, rfl⟩
theorem c_Box_pageOf0 (l : Launch) (G : GG) (a : AD) (c : CC) (m : MM) (o : OO) (f j n : Nat) (y : Int32) (fo : Nat → Option Nat) (hm : ¬ cMtd c = 0) (hF9 : FOk c fo) (hf : f < 8) (hfj : fo f = some j) (hl : cI c 12 j = nI n ∧ n ≤ 488) (hw9 : wth y 0 (nI (pg n) - 1) = 0) : CT l G y_Box_pageOf (.code y_Box_pageOf b_Box_pageOf 4 (some .int)) 2 0 0 Fno (wld G a c m o) [.ref (a 0 0), .int (nI f), .int y] (fun r w2 => r = .inl (some (.int (-1))) ∧ w2 = wld G a c m o) := by
  refine CT.of (by decide) (Nat.le_of_ble_eq_true rfl) rfl ?_
  intro E hl hG hF C r hw hex hnm
  subst hl; subst hG
  have hj := (hF9 f hf).2 j hfj
  refine aw_aload_n (i := 0) C (dec D_Box_pageOf rfl) rfl rfl ?_
  refine aw_iload_n (i := 1) C (dec D_Box_pageOf rfl) rfl rfl ?_
  refine aw_cv C ci_Box_152 [_] (c_Box_fileAt1 _ _ _ _ _ _ f j fo hm hF9 hf hfj) (dec D_Box_pageOf rfl) rcB rfl fpP (Nat.le_of_ble_eq_true rfl) (by decide) ⟨by decide, by decide⟩ (fun v w2 hp => ?_) (fun _ _ h => by cases h.1)
  obtain ⟨hv, rfl⟩ := hp
  cases hv
  refine aw_astore_n (i := 3) C (dec D_Box_pageOf rfl) rfl (by decide) ?_
  refine aw_iload_n (i := 2) C (dec D_Box_pageOf rfl) rfl rfl ?_
  refine aw_iconst (v := 0) C (dec D_Box_pageOf rfl) (by decide) ?_
  refine aw_aload_n (i := 3) C (dec D_Box_pageOf rfl) rfl rfl ?_
  refine aw_cv C ci_Box_216 [] (c_File_pages _ _ _ _ _ _ j n hj hl) (dec D_Box_pageOf rfl) (rcF hj) rfl fpP (Nat.le_of_ble_eq_true rfl) (by decide) ⟨by decide, by decide⟩ (fun v w2 hp => ?_) (fun _ _ h => by cases h.1)
  obtain ⟨hv, rfl⟩ := hp
  cases hv
  refine aw_iconst (v := 1) C (dec D_Box_pageOf rfl) (by decide) ?_
  refine aw_isub C (dec D_Box_pageOf rfl) ?_
  refine aw_cs C ci_Box_70 [_, _, _] (c_Box_within _ _ _ _ _ _ _ _ _) (dec D_Box_pageOf rfl) rfl fpP (Nat.le_of_ble_eq_true rfl) (by decide) ⟨by decide, by decide⟩ (fun v w2 hp => ?_) (fun _ _ h => by cases h.1)
  obtain ⟨hv, rfl⟩ := hp
  cases hv
  rw [hw9]
  refine aw_if_eq (tgt := 32) C (dec D_Box_pageOf rfl) (by decide) (fun _ => ?_) (fun h_ => absurd (show (0 : Int32) = (0 : Int32) by decide) h_)
  refine aw_iconst (v := (-1)) C (dec D_Box_pageOf rfl) (by decide) ?_
  refine aw_ret_i C r (dec D_Box_pageOf rfl) rfl (by decide) (by decide) ?_
  exact ⟨rfl, rfl⟩
theorem c_Box_served1 (l : Launch) (G : GG) (a : AD) (c : CC) (m : MM) (o : OO) (t q j : Nat) (hm : ¬ cMtd c = 0) (hq : cI c 8 1 = nI q ∧ t < q) (hc9 : q ≤ cN c 14 1 ∧ cN c 14 1 ≤ 100) (ht : cR c 14 1 t = some j) (hj : j < cN c 19 0) : CT l G y_Box_served (.code y_Box_served b_Box_served 2 (some .long)) 3 0 0 Fno (wld G a c m o) [.ref (a 0 0), .int (nI t)] (fun r w2 => r = .inl (some (.long (cL c 3 j))) ∧ w2 = wld G a c m o) := by
  refine CT.of (by decide) (Nat.le_of_ble_eq_true rfl) rfl ?_
  intro E hl hG hF C r hw hex hnm
  subst hl; subst hG
  refine aw_aload_n (i := 0) C (dec D_Box_served rfl) rfl rfl ?_
  refine aw_cv C ci_Box_62 [] (c_Box_isMounted _ _ _ _ _ _) (dec D_Box_served rfl) rcB rfl fpP (Nat.le_of_ble_eq_true rfl) (by decide) ⟨by decide, by decide⟩ (fun v w2 hp => ?_) (fun _ _ h => by cases h.1)
  obtain ⟨hv, rfl⟩ := hp
  cases hv
  refine aw_cs C ci_Box_66 [_] (c_Box_want1 _ _ _ _ _ _ _ hm) (dec D_Box_served rfl) rfl fpP (Nat.le_of_ble_eq_true rfl) (by decide) ⟨by decide, by decide⟩ (fun v w2 hp => ?_) (fun _ _ h => by cases h.1)
  obtain ⟨hv, rfl⟩ := hp
  cases hv
  refine aw_iload_n (i := 1) C (dec D_Box_served rfl) rfl rfl ?_
  refine aw_iconst (v := 0) C (dec D_Box_served rfl) (by decide) ?_
  refine aw_aload_n (i := 0) C (dec D_Box_served rfl) rfl rfl ?_
  refine gf_Box_52 C (dec D_Box_served rfl) ?_
  refine aw_cv C ci_Box_219 [] (c_AL_size _ _ _ _ _ _ 1 (by decide)) (dec D_Box_served rfl) (rcA (j := 1) (by decide)) rfl fpP (Nat.le_of_ble_eq_true rfl) (by decide) ⟨by decide, by decide⟩ (fun v w2 hp => ?_) (fun _ _ h => by cases h.1)
  obtain ⟨hv, rfl⟩ := hp
  cases hv
  rw [hq.1]
  refine aw_iconst (v := 1) C (dec D_Box_served rfl) (by decide) ?_
  refine aw_isub C (dec D_Box_served rfl) ?_
  rw [show (1 : Int32) = nI 1 from rfl, pk_sub (by omega)]
  refine aw_cs C ci_Box_70 [_, _, _] (c_Box_within _ _ _ _ _ _ _ _ _) (dec D_Box_served rfl) rfl fpP (Nat.le_of_ble_eq_true rfl) (by decide) ⟨by decide, by decide⟩ (fun v w2 hp => ?_) (fun _ _ h => by cases h.1)
  obtain ⟨hv, rfl⟩ := hp
  cases hv
  rw [show wth (nI t) 0 (nI (q - 1)) = 1 from wth_in (by omega) (by omega)]
  refine aw_if_ne (tgt := 32) C (dec D_Box_served rfl) (by decide) (fun _ => ?_) (fun h_ => absurd h_ (show ¬ (1 : Int32) = (0 : Int32) by decide))
  refine aw_aload_n (i := 0) C (dec D_Box_served rfl) rfl rfl ?_
  refine gf_Box_52 C (dec D_Box_served rfl) ?_
  refine aw_iload_n (i := 1) C (dec D_Box_served rfl) rfl rfl ?_
  refine aw_cv C ci_Box_231 [_] (c_AL_get _ _ _ _ _ _ 1 t q (by decide) hq hc9.1 hc9.2) (dec D_Box_served rfl) (rcA (j := 1) (by decide)) rfl fpP (Nat.le_of_ble_eq_true rfl) (by decide) ⟨by decide, by decide⟩ (fun v w2 hp => ?_) (fun _ _ h => by cases h.1)
  obtain ⟨hv, rfl⟩ := hp
  cases hv
  rw [ht]
  refine aw_cast C (ci := 9) (a := a 19 j) rfl rfl (rcQ hj) (List.mem_of_getElem? (i := 687) (by decide +kernel)) (dec D_Box_served rfl) ?_
  refine gf_Box_250 C hj (dec D_Box_served rfl) ?_
  refine aw_ret_l C r (dec D_Box_served rfl) (by decide) (by decide) ?_
  exact ⟨rfl, rfl⟩
theorem c_Box_servedx (l : Launch) (G : GG) (a : AD) (c : CC) (m : MM) (o : OO) (x : Int32) (q : Nat) (hm : ¬ cMtd c = 0) (hq : cI c 8 1 = nI q) (hw9 : wth x 0 (nI q - 1) = 0) : CT l G y_Box_served (.code y_Box_served b_Box_served 2 (some .long)) 6 1 6 Fno (wld G a c m o) [.ref (a 0 0), .int x] (fun r w2 => r = .inr 3 ∧ w2 = wld G a c m o) := by
  refine CT.of (by decide) (Nat.le_of_ble_eq_true rfl) rfl ?_
  intro E hl hG hF C r hw hex hnm
  subst hl; subst hG
  refine aw_aload_n (i := 0) C (dec D_Box_served rfl) rfl rfl ?_
  refine aw_cv C ci_Box_62 [] (c_Box_isMounted _ _ _ _ _ _) (dec D_Box_served rfl) rcB rfl fpP (Nat.le_of_ble_eq_true rfl) (by decide) ⟨by decide, by decide⟩ (fun v w2 hp => ?_) (fun _ _ h => by cases h.1)
  obtain ⟨hv, rfl⟩ := hp
  cases hv
  refine aw_cs C ci_Box_66 [_] (c_Box_want1 _ _ _ _ _ _ _ hm) (dec D_Box_served rfl) rfl fpP (Nat.le_of_ble_eq_true rfl) (by decide) ⟨by decide, by decide⟩ (fun v w2 hp => ?_) (fun _ _ h => by cases h.1)
  obtain ⟨hv, rfl⟩ := hp
  cases hv
  refine aw_iload_n (i := 1) C (dec D_Box_served rfl) rfl rfl ?_
  refine aw_iconst (v := 0) C (dec D_Box_served rfl) (by decide) ?_
  refine aw_aload_n (i := 0) C (dec D_Box_served rfl) rfl rfl ?_
  refine gf_Box_52 C (dec D_Box_served rfl) ?_
  refine aw_cv C ci_Box_219 [] (c_AL_size _ _ _ _ _ _ 1 (by decide)) (dec D_Box_served rfl) (rcA (j := 1) (by decide)) rfl fpP (Nat.le_of_ble_eq_true rfl) (by decide) ⟨by decide, by decide⟩ (fun v w2 hp => ?_) (fun _ _ h => by cases h.1)
  obtain ⟨hv, rfl⟩ := hp
  cases hv
  rw [hq]
  refine aw_iconst (v := 1) C (dec D_Box_served rfl) (by decide) ?_
  refine aw_isub C (dec D_Box_served rfl) ?_
  refine aw_cs C ci_Box_70 [_, _, _] (c_Box_within _ _ _ _ _ _ _ _ _) (dec D_Box_served rfl) rfl fpP (Nat.le_of_ble_eq_true rfl) (by decide) ⟨by decide, by decide⟩ (fun v w2 hp => ?_) (fun _ _ h => by cases h.1)
  obtain ⟨hv, rfl⟩ := hp
  cases hv
  rw [hw9]
  refine aw_if_ne (tgt := 32) C (dec D_Box_served rfl) (by decide) (fun h_ => absurd (show (0 : Int32) = (0 : Int32) by decide) h_) (fun _ => ?_)
  exact aw_throw C r hex hw xi_3 (dec D_Box_served rfl) (dec D_Box_served rfl) (dec D_Box_served rfl) (dec D_Box_served rfl) (by decide) (by decide) (by decide) (by decide) ⟨rfl, rfl⟩
