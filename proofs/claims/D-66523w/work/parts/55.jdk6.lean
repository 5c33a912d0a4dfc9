/-! the JDK: add; printed by tools/m55.py -/
theorem c_AL_grow_01 (l : Launch) (G : GG) (a : AD) (c : CC) (m : MM) (o : OO) (i : Nat) (hi : i < 2) (hn : ¬ cN c 14 i = 0) (hN : cN c 14 i ≤ 60) (hel : ∀ j, j < cN c 14 i → ∀ y, cR c 14 i j = some y → y < cN c 19 0) (hs : cI c 8 i = nI (cN c 14 i)) : CT l G y_AL_grow_0 (.code y_AL_grow_0 b_AL_grow_0 1 (some (.array (.object "java/lang/Object")))) 4 1 100 (Fyes G) (wld G a c m o) [.ref (a 13 i)] (fun r w2 => ∃ q, r = .inl (some (.ref q)) ∧ w2 = wld G (up2 a 14 i q) (gro c i (cN c 14 i + max 1 (cN c 14 i / 2)) (keep c i)) m o) := by
  refine CT.ofF (by decide +kernel) (Nat.le_of_ble_eq_true rfl) rfl ?_
  intro E hl hG hF C r hw hex hnm
  subst hl; subst hG
  have Fw : Cw E := fun a h => by rw [hF]; exact h
  refine aw_aload_n (i := 0) C (dec D_AL_grow_0 rfl) rfl rfl ?_
  refine aw_aload_n (i := 0) C (dec D_AL_grow_0 rfl) rfl rfl ?_
  refine gf_AL_48 C hi (dec D_AL_grow_0 rfl) ?_
  rw [hs]
  refine aw_iconst (v := 1) C (dec D_AL_grow_0 rfl) (by decide) ?_
  refine aw_iadd C (dec D_AL_grow_0 rfl) ?_
  rw [show (1 : Int32) = nI 1 from rfl, nI_add]
  refine aw_cv C ci_AL_69 [_] (c_AL_grow_11 _ _ _ _ _ _ i hi hn hN hel) (dec D_AL_grow_0 rfl) (rcA hi) rfl (fpW Fw) (Nat.le_of_ble_eq_true rfl) (by decide) ⟨by decide, by decide⟩ (fun v w2 hp => ?_) (fun _ _ h => by obtain ⟨_, h, _⟩ := h; cases h)
  obtain ⟨q, hv, rfl⟩ := hp
  cases hv
  exact aw_ret_a C r (.inr ⟨_, rfl⟩) (.inr ⟨_, rfl⟩) (dec D_AL_grow_0 rfl) (by decide) (by decide) ⟨q, rfl, rfl⟩
theorem c_AL_grow_00 (l : Launch) (G : GG) (a : AD) (c : CC) (m : MM) (o : OO) (i : Nat) (hi : i < 2) (hn : cN c 14 i = 0) (hs : cI c 8 i = nI 0) : CT l G y_AL_grow_0 (.code y_AL_grow_0 b_AL_grow_0 1 (some (.array (.object "java/lang/Object")))) 4 1 100 (Fyes G) (wld G a c m o) [.ref (a 13 i)] (fun r w2 => ∃ q, r = .inl (some (.ref q)) ∧ w2 = wld G (up2 a 14 i q) (gro c i 10 (fun _ => none)) m o) := by
  refine CT.ofF (by decide +kernel) (Nat.le_of_ble_eq_true rfl) rfl ?_
  intro E hl hG hF C r hw hex hnm
  subst hl; subst hG
  have Fw : Cw E := fun a h => by rw [hF]; exact h
  refine aw_aload_n (i := 0) C (dec D_AL_grow_0 rfl) rfl rfl ?_
  refine aw_aload_n (i := 0) C (dec D_AL_grow_0 rfl) rfl rfl ?_
  refine gf_AL_48 C hi (dec D_AL_grow_0 rfl) ?_
  rw [hs]
  refine aw_iconst (v := 1) C (dec D_AL_grow_0 rfl) (by decide) ?_
  refine aw_iadd C (dec D_AL_grow_0 rfl) ?_
  rw [show (1 : Int32) = nI 1 from rfl, nI_add]
  refine aw_cv C ci_AL_69 [_] (c_AL_grow_10 _ _ _ _ _ _ i hi hn) (dec D_AL_grow_0 rfl) (rcA hi) rfl (fpW Fw) (Nat.le_of_ble_eq_true rfl) (by decide) ⟨by decide, by decide⟩ (fun v w2 hp => ?_) (fun _ _ h => by obtain ⟨_, h, _⟩ := h; cases h)
  obtain ⟨q, hv, rfl⟩ := hp
  cases hv
  exact aw_ret_a C r (.inr ⟨_, rfl⟩) (.inr ⟨_, rfl⟩) (dec D_AL_grow_0 rfl) (by decide) (by decide) ⟨q, rfl, rfl⟩
theorem c_AL_add_3r (l : Launch) (G : GG) (a : AD) (c : CC) (m : MM) (o : OO) (i j q : Nat) (hi : i < 2) (hj : j < cN c 19 0) (hq : q < cN c 14 i ∧ cN c 14 i ≤ 100) : CT l G y_AL_add_3 (.code y_AL_add_3 b_AL_add_3 4 none) 0 0 0 (Fyes G) (wld G a c m o) [.ref (a 13 i), .ref (a 19 j), .ref (a 14 i), .int (nI q)] (fun r w2 => r = .inl none ∧ w2 = wld G a (sI (sR c 14 i (rup (cR c 14 i) q (some j))) 8 i (nI (q + 1))) m o) := by
  refine CT.ofF (by decide +kernel) (Nat.le_of_ble_eq_true rfl) rfl ?_
  intro E hl hG hF C r hw hex hnm
  subst hl; subst hG
  have Fw : Cw E := fun a h => by rw [hF]; exact h
  refine aw_iload_n (i := 3) C (dec D_AL_add_3 rfl) rfl rfl ?_
  refine aw_aload_n (i := 2) C (dec D_AL_add_3 rfl) rfl rfl ?_
  refine aw_alen (k0 := 14) (i0 := i) C 6 rfl (dec D_AL_add_3 rfl) (w14 hi (by omega)) ?_
  refine aw_icmp_ne (tgt := 11) C (dec D_AL_add_3 rfl) (by decide) (fun h3 => ?_) (fun h3 => ?_)
  · refine aw_aload_n (i := 2) C (dec D_AL_add_3 rfl) rfl rfl ?_
    refine aw_iload_n (i := 3) C (dec D_AL_add_3 rfl) rfl rfl ?_
    refine aw_aload_n (i := 1) C (dec D_AL_add_3 rfl) rfl rfl ?_
    refine as_C14 C Fw hi (rcQ hj) q (List.mem_of_getElem? (i := 1100) (by decide +kernel)) (dec D_AL_add_3 rfl) (ix_of hq.1) ?_
    refine aw_aload_n (i := 0) C (dec D_AL_add_3 rfl) rfl rfl ?_
    refine aw_iload_n (i := 3) C (dec D_AL_add_3 rfl) rfl rfl ?_
    refine aw_iconst (v := 1) C (dec D_AL_add_3 rfl) (by decide) ?_
    refine aw_iadd C (dec D_AL_add_3 rfl) ?_
    rw [show (1 : Int32) = nI 1 from rfl, nI_add]
    refine pf_AL_48 C Fw (by exact hi) (dec D_AL_add_3 rfl) ?_
    refine aw_ret_v C r (dec D_AL_add_3 rfl) (by decide) (by decide) ?_
    exact ⟨rfl, rfl⟩
  · exact absurd ((nI_eq (by omega) (by omega)).mp h3) (by show ¬ q = cN c 14 i; omega)
theorem c_AL_add_31 (l : Launch) (G : GG) (a : AD) (c : CC) (m : MM) (o : OO) (i j : Nat) (hi : i < 2) (hn : ¬ cN c 14 i = 0) (hN : cN c 14 i ≤ 60) (hel : ∀ j, j < cN c 14 i → ∀ y, cR c 14 i j = some y → y < cN c 19 0) (hs : cI c 8 i = nI (cN c 14 i)) (hj : j < cN c 19 0) : CT l G y_AL_add_3 (.code y_AL_add_3 b_AL_add_3 4 none) 5 1 100 (Fyes G) (wld G a c m o) [.ref (a 13 i), .ref (a 19 j), .ref (a 14 i), .int (nI (cN c 14 i))] (fun r w2 => ∃ q, r = .inl none ∧ w2 = wld G (up2 a 14 i q) (sI (sR (gro c i (cN c 14 i + max 1 (cN c 14 i / 2)) (keep c i)) 14 i (rup (cR (gro c i (cN c 14 i + max 1 (cN c 14 i / 2)) (keep c i)) 14 i) (cN c 14 i) (some j))) 8 i (nI ((cN c 14 i) + 1))) m o) := by
  refine CT.ofF (by decide +kernel) (Nat.le_of_ble_eq_true rfl) rfl ?_
  intro E hl hG hF C r hw hex hnm
  subst hl; subst hG
  have Fw : Cw E := fun a h => by rw [hF]; exact h
  refine aw_iload_n (i := 3) C (dec D_AL_add_3 rfl) rfl rfl ?_
  refine aw_aload_n (i := 2) C (dec D_AL_add_3 rfl) rfl rfl ?_
  refine aw_alen (k0 := 14) (i0 := i) C 6 rfl (dec D_AL_add_3 rfl) (w14 hi hn) ?_
  refine aw_icmp_ne (tgt := 11) C (dec D_AL_add_3 rfl) (by decide) (fun h3 => ?_) (fun h3 => ?_)
  · exact absurd rfl h3
  · refine aw_aload_n (i := 0) C (dec D_AL_add_3 rfl) rfl rfl ?_
    refine aw_cv C ci_AL_129 [] (c_AL_grow_01 _ _ _ _ _ _ i hi hn hN hel hs) (dec D_AL_add_3 rfl) (rcA hi) rfl (fpW Fw) (Nat.le_of_ble_eq_true rfl) (by decide) ⟨by decide, by decide⟩ (fun v w2 hp => ?_) (fun _ _ h => by obtain ⟨_, h, _⟩ := h; cases h)
    obtain ⟨q, hv, rfl⟩ := hp
    cases hv
    refine aw_astore_n (i := 2) C (dec D_AL_add_3 rfl) rfl (by decide) ?_
    refine aw_aload_n (i := 2) C (dec D_AL_add_3 rfl) rfl rfl ?_
    refine aw_iload_n (i := 3) C (dec D_AL_add_3 rfl) rfl rfl ?_
    refine aw_aload_n (i := 1) C (dec D_AL_add_3 rfl) rfl rfl ?_
    have eN : cN (gro c i (cN c 14 i + max 1 (cN c 14 i / 2)) (keep c i)) 14 i = (cN c 14 i + max 1 (cN c 14 i / 2)) := by simp [gro, sR, sN, cN, up2]
    refine AW.eq rfl rfl (st' := [.ref (up2 a 14 i q 19 j), .int (nI (cN c 14 i)), .ref (up2 a 14 i q 14 i)]) (by simp [up2]) ?_
    refine as_C14 (a := up2 a 14 i q) (c := gro c i (cN c 14 i + max 1 (cN c 14 i / 2)) (keep c i)) (j := j) C Fw hi (rcQ (a := up2 a 14 i q) (c := gro c i (cN c 14 i + max 1 (cN c 14 i / 2)) (keep c i)) hj) (cN c 14 i) (List.mem_of_getElem? (i := 1100) (by decide +kernel)) (dec D_AL_add_3 rfl) (ix_of (by rw [eN]; omega) (by rw [eN]; omega)) ?_
    refine aw_aload_n (i := 0) C (dec D_AL_add_3 rfl) rfl rfl ?_
    refine aw_iload_n (i := 3) C (dec D_AL_add_3 rfl) rfl rfl ?_
    refine aw_iconst (v := 1) C (dec D_AL_add_3 rfl) (by decide) ?_
    refine aw_iadd C (dec D_AL_add_3 rfl) ?_
    rw [show (1 : Int32) = nI 1 from rfl, nI_add]
    change AW E _ _ _ _ _ _ [_, .ref (up2 a 14 i q 13 i)]
    refine pf_AL_48 C Fw (by exact hi) (dec D_AL_add_3 rfl) ?_
    refine aw_ret_v C r (dec D_AL_add_3 rfl) (by decide) (by decide) ?_
    exact ⟨q, rfl, rfl⟩
theorem c_AL_add_30 (l : Launch) (G : GG) (a : AD) (c : CC) (m : MM) (o : OO) (i j : Nat) (hi : i < 2) (hn : cN c 14 i = 0) (hs : cI c 8 i = nI 0) (hj : j < cN c 19 0) : CT l G y_AL_add_3 (.code y_AL_add_3 b_AL_add_3 4 none) 5 1 100 (Fyes G) (wld G a c m o) [.ref (a 13 i), .ref (a 19 j), .ref (gZ G), .int (nI (0))] (fun r w2 => ∃ q, r = .inl none ∧ w2 = wld G (up2 a 14 i q) (sI (sR (gro c i 10 (fun _ => none)) 14 i (rup (cR (gro c i 10 (fun _ => none)) 14 i) (0) (some j))) 8 i (nI ((0) + 1))) m o) := by
  refine CT.ofF (by decide +kernel) (Nat.le_of_ble_eq_true rfl) rfl ?_
  intro E hl hG hF C r hw hex hnm
  subst hl; subst hG
  have Fw : Cw E := fun a h => by rw [hF]; exact h
  refine aw_iload_n (i := 3) C (dec D_AL_add_3 rfl) rfl rfl ?_
  refine aw_aload_n (i := 2) C (dec D_AL_add_3 rfl) rfl rfl ?_
  refine aw_lenZ C (dec D_AL_add_3 rfl) ?_
  refine aw_icmp_ne (tgt := 11) C (dec D_AL_add_3 rfl) (by decide) (fun h3 => ?_) (fun h3 => ?_)
  · exact absurd rfl h3
  · refine aw_aload_n (i := 0) C (dec D_AL_add_3 rfl) rfl rfl ?_
    refine aw_cv C ci_AL_129 [] (c_AL_grow_00 _ _ _ _ _ _ i hi hn hs) (dec D_AL_add_3 rfl) (rcA hi) rfl (fpW Fw) (Nat.le_of_ble_eq_true rfl) (by decide) ⟨by decide, by decide⟩ (fun v w2 hp => ?_) (fun _ _ h => by obtain ⟨_, h, _⟩ := h; cases h)
    obtain ⟨q, hv, rfl⟩ := hp
    cases hv
    refine aw_astore_n (i := 2) C (dec D_AL_add_3 rfl) rfl (by decide) ?_
    refine aw_aload_n (i := 2) C (dec D_AL_add_3 rfl) rfl rfl ?_
    refine aw_iload_n (i := 3) C (dec D_AL_add_3 rfl) rfl rfl ?_
    refine aw_aload_n (i := 1) C (dec D_AL_add_3 rfl) rfl rfl ?_
    have eN : cN (gro c i 10 (fun _ => none)) 14 i = 10 := by simp [gro, sR, sN, cN, up2]
    refine AW.eq rfl rfl (st' := [.ref (up2 a 14 i q 19 j), .int (nI (0)), .ref (up2 a 14 i q 14 i)]) (by simp [up2]) ?_
    refine as_C14 (a := up2 a 14 i q) (c := gro c i 10 (fun _ => none)) (j := j) C Fw hi (rcQ (a := up2 a 14 i q) (c := gro c i 10 (fun _ => none)) hj) (0) (List.mem_of_getElem? (i := 1100) (by decide +kernel)) (dec D_AL_add_3 rfl) (ix_of (by rw [eN]; omega) (by rw [eN]; omega)) ?_
    refine aw_aload_n (i := 0) C (dec D_AL_add_3 rfl) rfl rfl ?_
    refine aw_iload_n (i := 3) C (dec D_AL_add_3 rfl) rfl rfl ?_
    refine aw_iconst (v := 1) C (dec D_AL_add_3 rfl) (by decide) ?_
    refine aw_iadd C (dec D_AL_add_3 rfl) ?_
    rw [show (1 : Int32) = nI 1 from rfl, nI_add]
    change AW E _ _ _ _ _ _ [_, .ref (up2 a 14 i q 13 i)]
    refine pf_AL_48 C Fw (by exact hi) (dec D_AL_add_3 rfl) ?_
    refine aw_ret_v C r (dec D_AL_add_3 rfl) (by decide) (by decide) ?_
    exact ⟨q, rfl, rfl⟩
