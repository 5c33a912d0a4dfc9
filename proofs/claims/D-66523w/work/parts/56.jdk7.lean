/-! the JDK: add(e); printed by tools/m56.py -/
theorem c_AL_add_1r (l : Launch) (G : GG) (a : AD) (c : CC) (m : MM) (o : OO) (i j q : Nat) (hi : i < 2) (hj : j < cN c 19 0) (hq : q < cN c 14 i ∧ cN c 14 i ≤ 100) (hs : cI c 8 i = nI q) : CT l G y_AL_add_1 (.code y_AL_add_1 b_AL_add_1 2 (some .boolean)) 1 0 0 (Fyes G) (wld G a c m o) [.ref (a 13 i), .ref (a 19 j)] (fun r w2 => r = .inl (some (.int 1)) ∧ w2 = wld G a (sI (sR (sI c 7 i (cI c 7 i + 1)) 14 i (rup (cR (sI c 7 i (cI c 7 i + 1)) 14 i) q (some j))) 8 i (nI (q + 1))) m o) := by
  refine CT.ofF (by decide +kernel) (Nat.le_of_ble_eq_true rfl) rfl ?_
  intro E hl hG hF C r hw hex hnm
  subst hl; subst hG
  have Fw : Cw E := fun a h => by rw [hF]; exact h
  refine aw_aload_n (i := 0) C (dec D_AL_add_1 rfl) rfl rfl ?_
  refine aw_dup C (dec D_AL_add_1 rfl) rfl ?_
  refine gf_AL_63 C hi (dec D_AL_add_1 rfl) ?_
  refine aw_iconst (v := 1) C (dec D_AL_add_1 rfl) (by decide) ?_
  refine aw_iadd C (dec D_AL_add_1 rfl) ?_
  refine pf_AL_63 C Fw hi (dec D_AL_add_1 rfl) ?_
  refine aw_aload_n (i := 0) C (dec D_AL_add_1 rfl) rfl rfl ?_
  refine aw_aload_n (i := 1) C (dec D_AL_add_1 rfl) rfl rfl ?_
  refine aw_aload_n (i := 0) C (dec D_AL_add_1 rfl) rfl rfl ?_
  refine gf_AL_9 C (by exact hi) (dec D_AL_add_1 rfl) ?_
  rw [el_ne (c := (sI c 7 i (cI c 7 i + 1))) (show ¬ cN c 14 i = 0 by omega)]
  refine aw_aload_n (i := 0) C (dec D_AL_add_1 rfl) rfl rfl ?_
  refine gf_AL_48 C (by exact hi) (dec D_AL_add_1 rfl) ?_
  rw [show cI (sI c 7 i (cI c 7 i + 1)) 8 i = nI q from hs]
  refine aw_cv C ci_AL_131 [_, _, _] (c_AL_add_3r _ _ _ (sI c 7 i (cI c 7 i + 1)) _ _ i j q hi hj hq) (dec D_AL_add_1 rfl) (rcA hi) rfl (fpW Fw) (Nat.le_of_ble_eq_true rfl) (by decide) ⟨by decide, by decide⟩ (fun v w2 hp => ?_) (fun _ _ h => by cases h.1)
  obtain ⟨hv, rfl⟩ := hp
  cases hv
  refine aw_iconst (v := 1) C (dec D_AL_add_1 rfl) (by decide) ?_
  refine aw_ret_i C r (dec D_AL_add_1 rfl) rfl (by decide) (by decide) ?_
  exact ⟨rfl, rfl⟩
theorem c_AL_add_11 (l : Launch) (G : GG) (a : AD) (c : CC) (m : MM) (o : OO) (i j : Nat) (hi : i < 2) (hn : ¬ cN c 14 i = 0) (hN : cN c 14 i ≤ 60) (hel : ∀ j, j < cN c 14 i → ∀ y, cR c 14 i j = some y → y < cN c 19 0) (hs : cI c 8 i = nI (cN c 14 i)) (hj : j < cN c 19 0) : CT l G y_AL_add_1 (.code y_AL_add_1 b_AL_add_1 2 (some .boolean)) 6 1 100 (Fyes G) (wld G a c m o) [.ref (a 13 i), .ref (a 19 j)] (fun r w2 => ∃ q, r = .inl (some (.int 1)) ∧ w2 = wld G (up2 a 14 i q) (sI (sR (gro (sI c 7 i (cI c 7 i + 1)) i (cN c 14 i + max 1 (cN c 14 i / 2)) (keep c i)) 14 i (rup (cR (gro (sI c 7 i (cI c 7 i + 1)) i (cN c 14 i + max 1 (cN c 14 i / 2)) (keep c i)) 14 i) (cN c 14 i) (some j))) 8 i (nI ((cN c 14 i) + 1))) m o) := by
  refine CT.ofF (by decide +kernel) (Nat.le_of_ble_eq_true rfl) rfl ?_
  intro E hl hG hF C r hw hex hnm
  subst hl; subst hG
  have Fw : Cw E := fun a h => by rw [hF]; exact h
  refine aw_aload_n (i := 0) C (dec D_AL_add_1 rfl) rfl rfl ?_
  refine aw_dup C (dec D_AL_add_1 rfl) rfl ?_
  refine gf_AL_63 C hi (dec D_AL_add_1 rfl) ?_
  refine aw_iconst (v := 1) C (dec D_AL_add_1 rfl) (by decide) ?_
  refine aw_iadd C (dec D_AL_add_1 rfl) ?_
  refine pf_AL_63 C Fw hi (dec D_AL_add_1 rfl) ?_
  refine aw_aload_n (i := 0) C (dec D_AL_add_1 rfl) rfl rfl ?_
  refine aw_aload_n (i := 1) C (dec D_AL_add_1 rfl) rfl rfl ?_
  refine aw_aload_n (i := 0) C (dec D_AL_add_1 rfl) rfl rfl ?_
  refine gf_AL_9 C (by exact hi) (dec D_AL_add_1 rfl) ?_
  rw [el_ne (c := (sI c 7 i (cI c 7 i + 1))) (show ¬ cN c 14 i = 0 from hn)]
  refine aw_aload_n (i := 0) C (dec D_AL_add_1 rfl) rfl rfl ?_
  refine gf_AL_48 C (by exact hi) (dec D_AL_add_1 rfl) ?_
  rw [show cI (sI c 7 i (cI c 7 i + 1)) 8 i = nI (cN c 14 i) from hs]
  refine aw_cv C ci_AL_131 [_, _, _] (c_AL_add_31 _ _ _ (sI c 7 i (cI c 7 i + 1)) _ _ i j hi hn hN hel hs hj) (dec D_AL_add_1 rfl) (rcA hi) rfl (fpW Fw) (Nat.le_of_ble_eq_true rfl) (by decide) ⟨by decide, by decide⟩ (fun v w2 hp => ?_) (fun _ _ h => by obtain ⟨_, h, _⟩ := h; cases h)
  obtain ⟨q, hv, rfl⟩ := hp
  cases hv
  refine aw_iconst (v := 1) C (dec D_AL_add_1 rfl) (by decide) ?_
  refine aw_ret_i C r (dec D_AL_add_1 rfl) rfl (by decide) (by decide) ?_
  exact ⟨q, rfl, rfl⟩
theorem c_AL_add_10 (l : Launch) (G : GG) (a : AD) (c : CC) (m : MM) (o : OO) (i j : Nat) (hi : i < 2) (hn : cN c 14 i = 0) (hs : cI c 8 i = nI 0) (hj : j < cN c 19 0) : CT l G y_AL_add_1 (.code y_AL_add_1 b_AL_add_1 2 (some .boolean)) 6 1 100 (Fyes G) (wld G a c m o) [.ref (a 13 i), .ref (a 19 j)] (fun r w2 => ∃ q, r = .inl (some (.int 1)) ∧ w2 = wld G (up2 a 14 i q) (sI (sR (gro (sI c 7 i (cI c 7 i + 1)) i 10 (fun _ => none)) 14 i (rup (cR (gro (sI c 7 i (cI c 7 i + 1)) i 10 (fun _ => none)) 14 i) (0) (some j))) 8 i (nI ((0) + 1))) m o) := by
  refine CT.ofF (by decide +kernel) (Nat.le_of_ble_eq_true rfl) rfl ?_
  intro E hl hG hF C r hw hex hnm
  subst hl; subst hG
  have Fw : Cw E := fun a h => by rw [hF]; exact h
  refine aw_aload_n (i := 0) C (dec D_AL_add_1 rfl) rfl rfl ?_
  refine aw_dup C (dec D_AL_add_1 rfl) rfl ?_
  refine gf_AL_63 C hi (dec D_AL_add_1 rfl) ?_
  refine aw_iconst (v := 1) C (dec D_AL_add_1 rfl) (by decide) ?_
  refine aw_iadd C (dec D_AL_add_1 rfl) ?_
  refine pf_AL_63 C Fw hi (dec D_AL_add_1 rfl) ?_
  refine aw_aload_n (i := 0) C (dec D_AL_add_1 rfl) rfl rfl ?_
  refine aw_aload_n (i := 1) C (dec D_AL_add_1 rfl) rfl rfl ?_
  refine aw_aload_n (i := 0) C (dec D_AL_add_1 rfl) rfl rfl ?_
  refine gf_AL_9 C (by exact hi) (dec D_AL_add_1 rfl) ?_
  rw [show elA (eG E) a (sI c 7 i (cI c 7 i + 1)) i = gZ (eG E) from if_pos hn]
  refine aw_aload_n (i := 0) C (dec D_AL_add_1 rfl) rfl rfl ?_
  refine gf_AL_48 C (by exact hi) (dec D_AL_add_1 rfl) ?_
  rw [show cI (sI c 7 i (cI c 7 i + 1)) 8 i = nI (0) from hs]
  refine aw_cv C ci_AL_131 [_, _, _] (c_AL_add_30 _ _ _ (sI c 7 i (cI c 7 i + 1)) _ _ i j hi hn hs hj) (dec D_AL_add_1 rfl) (rcA hi) rfl (fpW Fw) (Nat.le_of_ble_eq_true rfl) (by decide) ⟨by decide, by decide⟩ (fun v w2 hp => ?_) (fun _ _ h => by obtain ⟨_, h, _⟩ := h; cases h)
  obtain ⟨q, hv, rfl⟩ := hp
  cases hv
  refine aw_iconst (v := 1) C (dec D_AL_add_1 rfl) (by decide) ?_
  refine aw_ret_i C r (dec D_AL_add_1 rfl) rfl (by decide) (by decide) ?_
  exact ⟨q, rfl, rfl⟩
