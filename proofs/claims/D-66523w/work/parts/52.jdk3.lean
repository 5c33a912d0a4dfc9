/-! the JDK: copyOf, grow, add; printed by tools/m52.py -/
def elF (a : AD) (c : CC) (i : Nat) : Nat → Option Nat := fun j => (cR c 14 i j).map (a 19)
theorem w14 {G : GG} {a : AD} {c : CC} {m : MM} {o : OO} {i : Nat} (hi : i < 2) (h : ¬ cN c 14 i = 0) : wld G a c m o 14 i = some (a 14 i, .inl (gA G 6, cN c 14 i, .inr (.inr (.inr (.inr (elF a c i)))))) := cC_at (by decide) hi (by simp [celC, h]; rfl)
theorem rc_up {w : Wd} {k i x : Nat} {q : Nat × va_E} {Cn : String} (h : Rcv w x Cn) (hn : ∀ k' i', k' = k → i' = i → w k' i' = none) : Rcv (upW w k i q) x Cn := by
  obtain ⟨k0, i0, ci, fs, r, e, e2⟩ := h
  refine ⟨k0, i0, ci, fs, r, ?_, e2⟩
  rw [upW_ne]
  · exact e
  · rintro ⟨z1, z2⟩; rw [hn _ _ z1 z2] at e; cases e
theorem w29 {G : GG} {a : AD} {c : CC} {m : MM} {o : OO} : wld G a c m o 29 0 = none := by
  unfold wld
  rw [if_pos (by decide)]
  exact (if_pos (show 0 < cntC c 29 from Nat.one_pos)).trans rfl
theorem c_Arrays_copyOf_3 (l : Launch) (G : GG) (a : AD) (c : CC) (m : MM) (o : OO) (i N : Nat) (hi : i < 2) (hn : ¬ cN c 14 i = 0) (hN : cN c 14 i ≤ N ∧ N ≤ 100) (hel : ∀ j, j < cN c 14 i → ∀ y, cR c 14 i j = some y → y < cN c 19 0) : CT l G y_Arrays_copyOf_3 (.code y_Arrays_copyOf_3 b_Arrays_copyOf_3 4 (some (.array (.object "java/lang/Object")))) 1 1 100 (Fyes G) (wld G a c m o) [.ref (a 14 i), .int (nI N), .ref (gM G)] (fun r w2 => ∃ q, r = .inl (some (.ref q)) ∧ w2 = upW (wld G a c m o) 29 0 (q, .inl (gA G 6, N, .inr (.inr (.inr (.inr (va_cpy (elF a c i) (fun _ => none) 0 0 (cN c 14 i)))))))) := by
  refine CT.ofF (by decide +kernel) (Nat.le_of_ble_eq_true rfl) rfl ?_
  intro E hl hG hF C r hw hex hnm
  subst hl; subst hG
  have Fw : Cw E := fun a h => by rw [hF]; exact h
  refine aw_aload_n (i := 2) C (dec D_Arrays_copyOf_3 rfl) rfl rfl ?_
  refine aw_ldcM C (List.mem_of_getElem? (i := 762) (by decide +kernel)) (dec D_Arrays_copyOf_3 rfl) ?_
  refine aw_acmp_ne (rx := some (gM (eG E))) (ry := some (gM (eG E))) (tgt := 13) C (dec D_Arrays_copyOf_3 rfl) (by decide) (fun h => absurd rfl h) (fun _ => ?_)
  refine aw_iload_n (i := 1) C (dec D_Arrays_copyOf_3 rfl) rfl rfl ?_
  refine aw_newQ C 29 0 6 N rfl (List.mem_of_getElem? (i := 764) (by decide +kernel)) (List.mem_of_getElem? (i := 763) (by decide +kernel)) (dec D_Arrays_copyOf_3 rfl) rfl (by omega) ⟨by decide, by show 0 + N ≤ 100; omega⟩ (fun q => ?_)
  refine aw_goto (tgt := 24) C (dec D_Arrays_copyOf_3 rfl) (by decide) ?_
  refine aw_astore_n (i := 3) C (dec D_Arrays_copyOf_3 rfl) rfl (by decide) ?_
  refine aw_aload_n (i := 0) C (dec D_Arrays_copyOf_3 rfl) rfl rfl ?_
  refine aw_iconst (v := 0) C (dec D_Arrays_copyOf_3 rfl) (by decide) ?_
  refine aw_aload_n (i := 3) C (dec D_Arrays_copyOf_3 rfl) rfl rfl ?_
  refine aw_iconst (v := 0) C (dec D_Arrays_copyOf_3 rfl) (by decide) ?_
  refine aw_aload_n (i := 0) C (dec D_Arrays_copyOf_3 rfl) rfl rfl ?_
  have e14 : upW (wld (eG E) a c m o) 29 0 (q, .inl (gA (eG E) 6, N, .inr (.inr (.inr (.inr (fun _ => none)))))) 14 i = some (a 14 i, .inl (gA (eG E) 6, cN c 14 i, .inr (.inr (.inr (.inr (elF a c i)))))) := by rw [upW_ne _ _ (fun z => absurd z.1 (by decide))]; exact w14 hi hn
  refine aw_alen (k0 := 14) (i0 := i) C 6 rfl (dec D_Arrays_copyOf_3 rfl) e14 ?_
  refine aw_iload_n (i := 1) C (dec D_Arrays_copyOf_3 rfl) rfl rfl ?_
  refine aw_cs C ci_Arrays_304 [_, _] (c_Math_minW _ _ _ _ _) (dec D_Arrays_copyOf_3 rfl) rfl fpP (Nat.le_of_ble_eq_true rfl) (by decide) ⟨by decide, by show 0 + N + 0 ≤ 100; omega⟩ (fun v w2 hp => ?_) (fun _ _ h => by cases h.1)
  obtain ⟨hv, rfl⟩ := hp
  cases hv
  rw [show imn (nI (cN c 14 i)) (nI N) = nI (cN c 14 i) from if_neg (nI_nlt hN.1 (by omega))]
  refine aw_copy C Fw (List.mem_of_getElem? (i := 768) (by decide +kernel)) (List.mem_of_getElem? (i := 770) (by decide +kernel)) (List.mem_of_getElem? (i := 769) (by decide +kernel)) (List.mem_of_getElem? (i := 63) (by decide +kernel)) 6 rfl (k0 := 14) (i0 := i) (k1 := 29) (i1 := 0) e14 (upW_self _ _ _ _) (Nat.le_refl _) hN.1 (by omega) (fun j hj y hy => ?_) (dec D_Arrays_copyOf_3 rfl) (by decide) ?_
  · unfold elF at hy
    cases hz : cR c 14 i j with
    | none => rw [hz] at hy; cases hy
    | some y0 =>
      rw [hz] at hy; cases hy
      exact ⟨_, rc_up (rcQ (hel j hj y0 hz)) (fun k' i' z1 z2 => by rw [z1, z2]; exact w29), (List.mem_of_getElem? (i := 1100) (by decide +kernel))⟩
  · rw [upW_upW]
    refine aw_aload_n (i := 3) C (dec D_Arrays_copyOf_3 rfl) rfl rfl ?_
    exact aw_ret_a C r (.inr ⟨_, rfl⟩) (.inr ⟨_, rfl⟩) (dec D_Arrays_copyOf_3 rfl) (by decide) (by show 0 + N + 0 ≤ 100; omega) ⟨q, rfl, rfl⟩
