/-! the JDK: copyOf_2, newLength, grow; printed by tools/m54.py -/
theorem c_Arrays_copyOf_2 (l : Launch) (G : GG) (a : AD) (c : CC) (m : MM) (o : OO) (i N : Nat) (hi : i < 2) (hn : ¬ cN c 14 i = 0) (hN : cN c 14 i ≤ N ∧ N ≤ 100) (hel : ∀ j, j < cN c 14 i → ∀ y, cR c 14 i j = some y → y < cN c 19 0) : CT l G y_Arrays_copyOf_2 (.code y_Arrays_copyOf_2 b_Arrays_copyOf_2 2 (some (.array (.object "java/lang/Object")))) 2 1 100 (Fyes G) (wld G a c m o) [.ref (a 14 i), .int (nI N)] (fun r w2 => ∃ q, r = .inl (some (.ref q)) ∧ w2 = upW (wld G a c m o) 29 0 (q, .inl (gA G 6, N, .inr (.inr (.inr (.inr (va_cpy (elF a c i) (fun _ => none) 0 0 (cN c 14 i)))))))) := by
  refine CT.ofF (by decide +kernel) (Nat.le_of_ble_eq_true rfl) rfl ?_
  intro E hl hG hF C r hw hex hnm
  subst hl; subst hG
  have Fw : Cw E := fun a h => by rw [hF]; exact h
  refine aw_aload_n (i := 0) C (dec D_Arrays_copyOf_2 rfl) rfl rfl ?_
  refine aw_iload_n (i := 1) C (dec D_Arrays_copyOf_2 rfl) rfl rfl ?_
  refine aw_aload_n (i := 0) C (dec D_Arrays_copyOf_2 rfl) rfl rfl ?_
  refine aw_getC C (List.mem_of_getElem? (i := 739) (by decide +kernel)) (List.mem_of_getElem? (i := 1089) (by decide +kernel)) (List.mem_of_getElem? (i := 1088) (by decide +kernel)) (List.mem_of_getElem? (i := 740) (by decide +kernel)) (List.mem_of_getElem? (i := 758) (by decide +kernel)) (w14 hi hn) (dec D_Arrays_copyOf_2 rfl) ⟨by decide, Nat.le_of_ble_eq_true rfl⟩ ?_
  refine aw_cs C ci_Arrays_300 [_, _, _] (c_Arrays_copyOf_3 _ _ _ _ _ _ i N hi hn hN hel) (dec D_Arrays_copyOf_2 rfl) rfl (fpW Fw) (Nat.le_of_ble_eq_true rfl) (by decide) ⟨by decide, by decide⟩ (fun v w2 hp => ?_) (fun _ _ h => by obtain ⟨_, h, _⟩ := h; cases h)
  obtain ⟨q, hv, rfl⟩ := hp
  cases hv
  exact aw_ret_a C r (.inr ⟨_, rfl⟩) (.inr ⟨_, rfl⟩) (dec D_Arrays_copyOf_2 rfl) (by decide) (by decide) ⟨q, rfl, rfl⟩
theorem c_ASup_newLength (l : Launch) (G : GG) (w : Wd) (x y z : Nat) (h : x + max y z < 1000 ∧ 0 < max y z) : CT l G y_ASup_newLength (.code y_ASup_newLength b_ASup_newLength 4 (some .int)) 1 0 0 Fno (w) [.int (nI x), .int (nI y), .int (nI z)] (fun r w2 => r = .inl (some (.int (nI (x + max y z)))) ∧ w2 = w) := by
  refine CT.ofF (by decide +kernel) (Nat.le_of_ble_eq_true rfl) rfl ?_
  intro E hl hG hF C r hw hex hnm
  subst hl; subst hG
  refine aw_iload_n (i := 0) C (dec D_ASup_newLength rfl) rfl rfl ?_
  refine aw_iload_n (i := 1) C (dec D_ASup_newLength rfl) rfl rfl ?_
  refine aw_iload_n (i := 2) C (dec D_ASup_newLength rfl) rfl rfl ?_
  refine aw_cs C ci_ASup_194 [_, _] (c_Math_maxW _ _ _ _ _) (dec D_ASup_newLength rfl) rfl fpP (Nat.le_of_ble_eq_true rfl) (by decide) ⟨by decide, by decide⟩ (fun v w2 hp => ?_) (fun _ _ h => by cases h.1)
  obtain ⟨hv, rfl⟩ := hp
  cases hv
  rw [imx_n (by omega) (by omega)]
  refine aw_iadd C (dec D_ASup_newLength rfl) ?_
  rw [nI_add]
  refine aw_istore_n (i := 3) C (dec D_ASup_newLength rfl) rfl (by decide) ?_
  refine aw_iconst (v := 0) C (dec D_ASup_newLength rfl) (by decide) ?_
  refine aw_iload_n (i := 3) C (dec D_ASup_newLength rfl) rfl rfl ?_
  refine aw_icmp_ge (tgt := 21) C (dec D_ASup_newLength rfl) (by decide) (fun h10 => ?_) (fun h10 => ?_)
  · exact absurd h10 (nI_nle (by omega) (by omega))
  · refine aw_iload_n (i := 3) C (dec D_ASup_newLength rfl) rfl rfl ?_
    refine aw_ldc (v := 2147483639) C (dec D_ASup_newLength rfl) (List.mem_of_getElem? (i := 732) (by decide +kernel)) ?_
    refine aw_icmp_gt (tgt := 21) C (dec D_ASup_newLength rfl) (by decide) (fun h16 => ?_) (fun h16 => ?_)
    · exact absurd h16 (nI_nlt (a := 2147483639) (b := x + max y z) (by omega) (by omega))
    · refine aw_iload_n (i := 3) C (dec D_ASup_newLength rfl) rfl rfl ?_
      refine aw_ret_i C r (dec D_ASup_newLength rfl) rfl (by decide) (by decide) ?_
      exact ⟨rfl, rfl⟩
theorem c_AL_grow_11 (l : Launch) (G : GG) (a : AD) (c : CC) (m : MM) (o : OO) (i : Nat) (hi : i < 2) (hn : ¬ cN c 14 i = 0) (hN : cN c 14 i ≤ 60) (hel : ∀ j, j < cN c 14 i → ∀ y, cR c 14 i j = some y → y < cN c 19 0) : CT l G y_AL_grow_1 (.code y_AL_grow_1 b_AL_grow_1 4 (some (.array (.object "java/lang/Object")))) 3 1 100 (Fyes G) (wld G a c m o) [.ref (a 13 i), .int (nI (cN c 14 i + 1))] (fun r w2 => ∃ q, r = .inl (some (.ref q)) ∧ w2 = wld G (up2 a 14 i q) (gro c i (cN c 14 i + max 1 (cN c 14 i / 2)) (keep c i)) m o) := by
  refine CT.ofF (by decide +kernel) (Nat.le_of_ble_eq_true rfl) rfl ?_
  intro E hl hG hF C r hw hex hnm
  subst hl; subst hG
  have Fw : Cw E := fun a h => by rw [hF]; exact h
  refine aw_aload_n (i := 0) C (dec D_AL_grow_1 rfl) rfl rfl ?_
  refine gf_AL_9 C hi (dec D_AL_grow_1 rfl) ?_
  rw [el_ne hn]
  refine aw_alen (k0 := 14) (i0 := i) C 6 rfl (dec D_AL_grow_1 rfl) (w14 hi hn) ?_
  refine aw_istore_n (i := 2) C (dec D_AL_grow_1 rfl) rfl (by decide) ?_
  refine aw_iload_n (i := 2) C (dec D_AL_grow_1 rfl) rfl rfl ?_
  refine aw_if_gt (tgt := 20) C (dec D_AL_grow_1 rfl) (by decide) (fun h7 => ?_) (fun h7 => ?_)
  · refine aw_iload_n (i := 2) C (dec D_AL_grow_1 rfl) rfl rfl ?_
    refine aw_iload_n (i := 1) C (dec D_AL_grow_1 rfl) rfl rfl ?_
    refine aw_iload_n (i := 2) C (dec D_AL_grow_1 rfl) rfl rfl ?_
    refine aw_isub C (dec D_AL_grow_1 rfl) ?_
    rw [pk_sub (by omega), show cN c 14 i + 1 - cN c 14 i = 1 by omega]
    refine aw_iload_n (i := 2) C (dec D_AL_grow_1 rfl) rfl rfl ?_
    refine aw_iconst (v := 1) C (dec D_AL_grow_1 rfl) (by decide) ?_
    refine aw_ishr C (dec D_AL_grow_1 rfl) ?_
    rw [nI_shr1 (by omega)]
    refine aw_cs C ci_AL_73 [_, _, _] (c_ASup_newLength _ _ _ (cN c 14 i) 1 (cN c 14 i / 2) (by omega)) (dec D_AL_grow_1 rfl) rfl fpP (Nat.le_of_ble_eq_true rfl) (by decide) ⟨by decide, by decide⟩ (fun v w2 hp => ?_) (fun _ _ h => by cases h.1)
    obtain ⟨hv, rfl⟩ := hp
    cases hv
    refine aw_istore_n (i := 3) C (dec D_AL_grow_1 rfl) rfl (by decide) ?_
    refine aw_aload_n (i := 0) C (dec D_AL_grow_1 rfl) rfl rfl ?_
    refine aw_aload_n (i := 0) C (dec D_AL_grow_1 rfl) rfl rfl ?_
    refine gf_AL_9 C hi (dec D_AL_grow_1 rfl) ?_
    rw [el_ne hn]
    refine aw_iload_n (i := 3) C (dec D_AL_grow_1 rfl) rfl rfl ?_
    refine aw_cs C ci_AL_66 [_, _] (c_Arrays_copyOf_2 _ _ _ _ _ _ i _ hi hn (by omega) hel) (dec D_AL_grow_1 rfl) rfl (fpW Fw) (Nat.le_of_ble_eq_true rfl) (by decide) ⟨by decide, by decide⟩ (fun v w2 hp => ?_) (fun _ _ h => by obtain ⟨_, h, _⟩ := h; cases h)
    obtain ⟨q, hv, rfl⟩ := hp
    cases hv
    rw [keep_eq]
    refine aw_dup_x1 C (dec D_AL_grow_1 rfl) rfl rfl ?_
    refine aw_putf (k0 := 13) (i0 := i) C Fw cl_AL (fl1 (ref := "java/util/ArrayList") (List.mem_of_getElem? (i := 189) (by decide +kernel)) rfl) (by decide) rfl (dec D_AL_grow_1 rfl) (by rw [upW_ne _ _ (fun z => absurd z.1 (by decide))]; exact cC_at (by decide) hi rfl) (k := 0) (Nat.le_of_ble_eq_true rfl) rfl rfl ?_
    refine aw_fold hi (by omega) ?_
    exact aw_ret_a C r (.inr ⟨_, rfl⟩) (.inr ⟨_, rfl⟩) (dec D_AL_grow_1 rfl) (by decide) (by decide) ⟨q, rfl, rfl⟩
  · exact absurd (nI_lt (a := 0) (by omega) (by omega)) h7
theorem c_AL_grow_10 (l : Launch) (G : GG) (a : AD) (c : CC) (m : MM) (o : OO) (i : Nat) (hi : i < 2) (hn : cN c 14 i = 0) : CT l G y_AL_grow_1 (.code y_AL_grow_1 b_AL_grow_1 4 (some (.array (.object "java/lang/Object")))) 3 1 100 (Fyes G) (wld G a c m o) [.ref (a 13 i), .int 1] (fun r w2 => ∃ q, r = .inl (some (.ref q)) ∧ w2 = wld G (up2 a 14 i q) (gro c i 10 (fun _ => none)) m o) := by
  refine CT.ofF (by decide +kernel) (Nat.le_of_ble_eq_true rfl) rfl ?_
  intro E hl hG hF C r hw hex hnm
  subst hl; subst hG
  have Fw : Cw E := fun a h => by rw [hF]; exact h
  have ez : elA (eG E) a c i = gZ (eG E) := if_pos hn
  refine aw_aload_n (i := 0) C (dec D_AL_grow_1 rfl) rfl rfl ?_
  refine gf_AL_9 C hi (dec D_AL_grow_1 rfl) ?_
  rw [ez]
  refine aw_lenZ C (dec D_AL_grow_1 rfl) ?_
  refine aw_istore_n (i := 2) C (dec D_AL_grow_1 rfl) rfl (by decide) ?_
  refine aw_iload_n (i := 2) C (dec D_AL_grow_1 rfl) rfl rfl ?_
  refine aw_if_gt (tgt := 20) C (dec D_AL_grow_1 rfl) (by decide) (fun h_ => absurd h_ (show ¬ (0 : Int32) < (0 : Int32) by decide)) (fun _ => ?_)
  refine aw_aload_n (i := 0) C (dec D_AL_grow_1 rfl) rfl rfl ?_
  refine gf_AL_9 C hi (dec D_AL_grow_1 rfl) ?_
  rw [ez]
  refine aw_getZ C (List.mem_of_getElem? (i := 187) (by decide +kernel)) (dec D_AL_grow_1 rfl) ?_
  refine aw_acmp_eq (rx := some (gZ (eG E))) (ry := some (gZ (eG E))) (tgt := 45) C (dec D_AL_grow_1 rfl) (by decide) (fun _ => ?_) (fun h => absurd rfl h)
  refine aw_aload_n (i := 0) C (dec D_AL_grow_1 rfl) rfl rfl ?_
  refine aw_bipush (v := 10) C (dec D_AL_grow_1 rfl) (by decide) ?_
  refine aw_iload_n (i := 1) C (dec D_AL_grow_1 rfl) rfl rfl ?_
  refine aw_cs C ci_AL_79 [_, _] (c_Math_maxW _ _ _ _ _) (dec D_AL_grow_1 rfl) rfl fpP (Nat.le_of_ble_eq_true rfl) (by decide) ⟨by decide, by decide⟩ (fun v w2 hp => ?_) (fun _ _ h => by cases h.1)
  obtain ⟨hv, rfl⟩ := hp
  cases hv
  rw [show imx 10 1 = nI 10 from by decide]
  refine aw_newQ C 29 0 6 10 rfl (List.mem_of_getElem? (i := 772) (by decide +kernel)) (List.mem_of_getElem? (i := 763) (by decide +kernel)) (dec D_AL_grow_1 rfl) rfl (by omega) ⟨by decide, by decide⟩ (fun q => ?_)
  refine aw_dup_x1 C (dec D_AL_grow_1 rfl) rfl rfl ?_
  refine aw_putf (k0 := 13) (i0 := i) C Fw cl_AL (fl1 (ref := "java/util/ArrayList") (List.mem_of_getElem? (i := 189) (by decide +kernel)) rfl) (by decide) rfl (dec D_AL_grow_1 rfl) (by rw [upW_ne _ _ (fun z => absurd z.1 (by decide))]; exact cC_at (by decide) hi rfl) (k := 0) (Nat.le_of_ble_eq_true rfl) rfl rfl ?_
  refine aw_fold (h := fun _ => none) hi (by decide) ?_
  exact aw_ret_a C r (.inr ⟨_, rfl⟩) (.inr ⟨_, rfl⟩) (dec D_AL_grow_1 rfl) (by decide) (by decide) ⟨q, rfl, rfl⟩
