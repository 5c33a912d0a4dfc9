/-! constructors of loops over raw worlds; printed by tools/m64.py -/
theorem c_Loop_initL (l : Launch) (G : GG) (w : Wd) (n x : Nat)  : CT l G y_Loop_init (.code y_Loop_init b_Loop_init 1 none) 1 1 2 (Fyes G) (upW w 15 n (x, .inr (5, [.null]))) [.ref x] (fun r w2 => ∃ q, r = .inl none ∧ w2 = upW (upW w 15 n (x, .inr (5, [.ref q]))) 16 n (q, .inl (gA G 1, 2, .inr (.inl (fun _ => 0))))) := by
  refine CT.of (by decide) (Nat.le_of_ble_eq_true rfl) rfl ?_
  intro E hl hG hF C r hw hex hnm
  subst hl; subst hG
  have Fw : Cw E := fun a h => by rw [hF]; exact h
  refine aw_aload_n (i := 0) C (dec D_Loop_init rfl) rfl rfl ?_
  refine aw_objInit C (List.mem_of_getElem? (i := 86) (by decide +kernel)) (List.mem_of_getElem? (i := 72) (by decide +kernel)) (List.mem_of_getElem? (i := 73) (by decide +kernel)) (dec D_Loop_init rfl) (Nat.le_of_ble_eq_true rfl) (by decide) ?_
  refine aw_aload_n (i := 0) C (dec D_Loop_init rfl) rfl rfl ?_
  refine aw_iconst (v := 2) C (dec D_Loop_init rfl) (by decide) ?_
  refine aw_newJ C 16 n 2 (List.mem_of_getElem? (i := 92) (by decide +kernel)) (dec D_Loop_init rfl) rfl (by decide) ⟨by decide, by decide⟩ (fun q => ?_)
  refine aw_putF (k0 := 15) (i0 := n) C Fw hnm cl_Loop (List.mem_of_getElem? (i := 87) (by decide +kernel)) (by decide) rfl rfl (dec D_Loop_init rfl) (by rw [upW_ne _ _ (fun z => absurd z.1 (by decide))]; exact upW_self _ _ _ _) (k := 0) (Nat.le_of_ble_eq_true rfl) rfl rfl ?_
  rw [upW_comm _ _ _ (by decide), upW_upW]
  refine aw_ret_v C r (dec D_Loop_init rfl) (by decide) (by decide) ?_
  exact ⟨q, rfl, rfl⟩
theorem c_Loop_initS (l : Launch) (G : GG) (w : Wd) (n x : Nat)  : CT l G y_Loop_init (.code y_Loop_init b_Loop_init 1 none) 1 1 2 (Fyes G) (upW w 15 n (x, .inr (6, [.int 0, .null]))) [.ref x] (fun r w2 => ∃ q, r = .inl none ∧ w2 = upW (upW w 15 n (x, .inr (6, [.int 0, .ref q]))) 16 n (q, .inl (gA G 1, 2, .inr (.inl (fun _ => 0))))) := by
  refine CT.of (by decide) (Nat.le_of_ble_eq_true rfl) rfl ?_
  intro E hl hG hF C r hw hex hnm
  subst hl; subst hG
  have Fw : Cw E := fun a h => by rw [hF]; exact h
  refine aw_aload_n (i := 0) C (dec D_Loop_init rfl) rfl rfl ?_
  refine aw_objInit C (List.mem_of_getElem? (i := 86) (by decide +kernel)) (List.mem_of_getElem? (i := 72) (by decide +kernel)) (List.mem_of_getElem? (i := 73) (by decide +kernel)) (dec D_Loop_init rfl) (Nat.le_of_ble_eq_true rfl) (by decide) ?_
  refine aw_aload_n (i := 0) C (dec D_Loop_init rfl) rfl rfl ?_
  refine aw_iconst (v := 2) C (dec D_Loop_init rfl) (by decide) ?_
  refine aw_newJ C 16 n 2 (List.mem_of_getElem? (i := 92) (by decide +kernel)) (dec D_Loop_init rfl) rfl (by decide) ⟨by decide, by decide⟩ (fun q => ?_)
  refine aw_putF (k0 := 15) (i0 := n) C Fw hnm cl_Stuck (List.mem_of_getElem? (i := 87) (by decide +kernel)) (by decide) rfl rfl (dec D_Loop_init rfl) (by rw [upW_ne _ _ (fun z => absurd z.1 (by decide))]; exact upW_self _ _ _ _) (k := 1) (Nat.le_of_ble_eq_true rfl) rfl rfl ?_
  rw [upW_comm _ _ _ (by decide), upW_upW]
  refine aw_ret_v C r (dec D_Loop_init rfl) (by decide) (by decide) ?_
  exact ⟨q, rfl, rfl⟩
theorem c_Stuck_init (l : Launch) (G : GG) (w : Wd) (n x : Nat) (v : Int32)  : CT l G y_Stuck_init (.code y_Stuck_init b_Stuck_init 2 none) 2 1 2 (Fyes G) (upW w 15 n (x, .inr (6, [.int 0, .null]))) [.ref x, .int v] (fun r w2 => ∃ q, r = .inl none ∧ w2 = upW (upW w 15 n (x, .inr (6, [.int v, .ref q]))) 16 n (q, .inl (gA G 1, 2, .inr (.inl (fun _ => 0))))) := by
  refine CT.of (by decide) (Nat.le_of_ble_eq_true rfl) rfl ?_
  intro E hl hG hF C r hw hex hnm
  subst hl; subst hG
  have Fw : Cw E := fun a h => by rw [hF]; exact h
  refine aw_aload_n (i := 0) C (dec D_Stuck_init rfl) rfl rfl ?_
  refine aw_cin C ci_Stuck_1 [] (c_Loop_initS _ _ _ n x) (dec D_Stuck_init rfl) rfl (fpW Fw) (Nat.le_of_ble_eq_true rfl) (by decide) ⟨by decide, by decide⟩ (fun v w2 hp => ?_) (fun _ _ h => by obtain ⟨_, h, _⟩ := h; cases h)
  obtain ⟨q, hv, rfl⟩ := hp
  cases hv
  refine aw_aload_n (i := 0) C (dec D_Stuck_init rfl) rfl rfl ?_
  refine aw_iload_n (i := 1) C (dec D_Stuck_init rfl) rfl rfl ?_
  refine aw_putF (k0 := 15) (i0 := n) C Fw hnm cl_Stuck (List.mem_of_getElem? (i := 464) (by decide +kernel)) (by decide) rfl rfl (dec D_Stuck_init rfl) (by rw [upW_ne _ _ (fun z => absurd z.1 (by decide))]; exact upW_self _ _ _ _) (k := 0) (Nat.le_of_ble_eq_true rfl) rfl rfl ?_
  rw [upW_comm _ _ _ (by decide), upW_upW]
  refine aw_ret_v C r (dec D_Stuck_init rfl) (by decide) (by decide) ?_
  exact ⟨q, rfl, rfl⟩
