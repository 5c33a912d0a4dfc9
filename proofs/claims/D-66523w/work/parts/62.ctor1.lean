/-! constructors over raw worlds; printed by tools/m62.py -/
theorem c_Win_init (l : Launch) (G : GG) (w : Wd) (k0 i0 x : Nat)  : CT l G y_Win_init (.code y_Win_init b_Win_init 1 none) 1 0 0 (Fyes G) (upW w k0 i0 (x, .inr (8, [.int 0, .long 0, .int 0]))) [.ref x] (fun r w2 => r = .inl none ∧ w2 = upW w k0 i0 (x, .inr (8, [.int (-1), .long 0, .int 0]))) := by
  refine CT.of (by decide) (Nat.le_of_ble_eq_true rfl) rfl ?_
  intro E hl hG hF C r hw hex hnm
  subst hl; subst hG
  have Fw : Cw E := fun a h => by rw [hF]; exact h
  refine aw_aload_n (i := 0) C (dec D_Win_init rfl) rfl rfl ?_
  refine aw_objInit C (List.mem_of_getElem? (i := 384) (by decide +kernel)) (List.mem_of_getElem? (i := 72) (by decide +kernel)) (List.mem_of_getElem? (i := 73) (by decide +kernel)) (dec D_Win_init rfl) (Nat.le_of_ble_eq_true rfl) (by decide) ?_
  refine aw_aload_n (i := 0) C (dec D_Win_init rfl) rfl rfl ?_
  refine aw_iconst (v := (-1)) C (dec D_Win_init rfl) (by decide) ?_
  refine aw_putf (k0 := k0) (i0 := i0) C Fw cl_Win (fl1 (ref := "BubbleBox$Window") (List.mem_of_getElem? (i := 385) (by decide +kernel)) rfl) (by decide) rfl (dec D_Win_init rfl) (upW_self _ _ _ _) (k := 0) (Nat.le_of_ble_eq_true rfl) rfl rfl ?_
  rw [upW_upW]
  refine aw_ret_v C r (dec D_Win_init rfl) (by decide) (by decide) ?_
  exact ⟨rfl, rfl⟩
theorem c_Req_init (l : Launch) (G : GG) (w : Wd) (k0 i0 x : Nat) (p y : Int32) (v : Int64) (hy : y = 0 ∨ y = 1) : CT l G y_Req_init (.code y_Req_init b_Req_init 5 none) 1 0 0 (Fyes G) (upW w k0 i0 (x, .inr (9, [.int 0, .int 0, .long 0, .int 0, .long 0]))) [.ref x, .int p, .int y, .long v] (fun r w2 => r = .inl none ∧ w2 = upW w k0 i0 (x, .inr (9, [.int p, .int y, .long v, .int 0, .long 0]))) := by
  refine CT.of (by decide) (Nat.le_of_ble_eq_true rfl) rfl ?_
  intro E hl hG hF C r hw hex hnm
  subst hl; subst hG
  have Fw : Cw E := fun a h => by rw [hF]; exact h
  refine aw_aload_n (i := 0) C (dec D_Req_init rfl) rfl rfl ?_
  refine aw_objInit C (List.mem_of_getElem? (i := 692) (by decide +kernel)) (List.mem_of_getElem? (i := 72) (by decide +kernel)) (List.mem_of_getElem? (i := 73) (by decide +kernel)) (dec D_Req_init rfl) (Nat.le_of_ble_eq_true rfl) (by decide) ?_
  refine aw_aload_n (i := 0) C (dec D_Req_init rfl) rfl rfl ?_
  refine aw_iload_n (i := 1) C (dec D_Req_init rfl) rfl rfl ?_
  refine aw_putF (k0 := k0) (i0 := i0) C Fw hnm cl_Req (List.mem_of_getElem? (i := 693) (by decide +kernel)) (by decide) rfl rfl (dec D_Req_init rfl) (upW_self _ _ _ _) (k := 0) (Nat.le_of_ble_eq_true rfl) rfl rfl ?_
  rw [upW_upW]
  refine aw_aload_n (i := 0) C (dec D_Req_init rfl) rfl rfl ?_
  refine aw_iload_n (i := 2) C (dec D_Req_init rfl) rfl rfl ?_
  refine aw_putF (k0 := k0) (i0 := i0) C Fw hnm cl_Req (List.mem_of_getElem? (i := 695) (by decide +kernel)) (by decide) rfl rfl (dec D_Req_init rfl) (upW_self _ _ _ _) (k := 1) (Nat.le_of_ble_eq_true rfl) (bz_n hy).1 (bz_n hy).2 ?_
  rw [upW_upW]
  refine aw_aload_n (i := 0) C (dec D_Req_init rfl) rfl rfl ?_
  refine aw_lload_n (i := 3) C (dec D_Req_init rfl) rfl rfl ?_
  refine aw_putF (k0 := k0) (i0 := i0) C Fw hnm cl_Req (List.mem_of_getElem? (i := 697) (by decide +kernel)) (by decide) rfl rfl (dec D_Req_init rfl) (upW_self _ _ _ _) (k := 2) (Nat.le_of_ble_eq_true rfl) rfl rfl ?_
  rw [upW_upW]
  refine aw_ret_v C r (dec D_Req_init rfl) (by decide) (by decide) ?_
  exact ⟨rfl, rfl⟩
