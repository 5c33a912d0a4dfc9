/-! constructors of files and loops over raw worlds; printed by tools/m63.py -/
theorem upW_comm (w : Wd) {k i k' i' : Nat} (q q' : Nat × va_E) (h : k ≠ k') : upW (upW w k i q) k' i' q' = upW (upW w k' i' q') k i q := by
  funext k2 i2; unfold upW
  by_cases h1 : k2 = k'
  · have h2 : ¬ k2 = k := fun z => h (z.symm.trans h1)
    have h3 : ¬ k' = k := fun z => h z.symm
    simp [h1, h3]
  · simp [h1]
theorem c_File_init (l : Launch) (G : GG) (w : Wd) (n x : Nat) (nm : Int32)  : CT l G y_File_init (.code y_File_init b_File_init 2 none) 2 1 3 (Fyes G) (upW w 17 n (x, .inr (7, [.int 0, .int 0, .int 0, .null]))) [.ref x, .int nm] (fun r w2 => ∃ q, r = .inl none ∧ w2 = upW (upW w 17 n (x, .inr (7, [.int nm, .int 0, .int 0, .ref q]))) 18 n (q, .inr (8, [.int (-1), .long 0, .int 0]))) := by
  refine CT.of (by decide) (Nat.le_of_ble_eq_true rfl) rfl ?_
  intro E hl hG hF C r hw hex hnm
  subst hl; subst hG
  have Fw : Cw E := fun a h => by rw [hF]; exact h
  refine aw_aload_n (i := 0) C (dec D_File_init rfl) rfl rfl ?_
  refine aw_objInit C (List.mem_of_getElem? (i := 378) (by decide +kernel)) (List.mem_of_getElem? (i := 72) (by decide +kernel)) (List.mem_of_getElem? (i := 73) (by decide +kernel)) (dec D_File_init rfl) (Nat.le_of_ble_eq_true rfl) (by decide) ?_
  refine aw_aload_n (i := 0) C (dec D_File_init rfl) rfl rfl ?_
  refine aw_new C 18 n [.int 0, .long 0, .int 0] cl_Win (List.mem_of_getElem? (i := 379) (by decide +kernel)) (List.mem_of_getElem? (i := 380) (by decide +kernel)) (List.mem_of_getElem? (i := 56) (by decide +kernel)) (by decide) (dec D_File_init rfl) ⟨by decide, by decide⟩ (fun q => ?_)
  refine aw_dup C (dec D_File_init rfl) rfl ?_
  refine aw_cin C ci_File_11 [] (c_Win_init _ _ _ 18 n q) (dec D_File_init rfl) rfl (fpW Fw) (Nat.le_of_ble_eq_true rfl) (by decide) ⟨by decide, by decide⟩ (fun v w2 hp => ?_) (fun _ _ h => by cases h.1)
  obtain ⟨hv, rfl⟩ := hp
  cases hv
  refine aw_putF (k0 := 17) (i0 := n) C Fw hnm cl_File (List.mem_of_getElem? (i := 406) (by decide +kernel)) (by decide) rfl rfl (dec D_File_init rfl) (by rw [upW_ne _ _ (fun z => absurd z.1 (by decide))]; exact upW_self _ _ _ _) (k := 3) (Nat.le_of_ble_eq_true rfl) rfl rfl ?_
  rw [upW_comm _ _ _ (by decide), upW_upW]
  refine aw_aload_n (i := 0) C (dec D_File_init rfl) rfl rfl ?_
  refine aw_iload_n (i := 1) C (dec D_File_init rfl) rfl rfl ?_
  refine aw_putF (k0 := 17) (i0 := n) C Fw hnm cl_File (List.mem_of_getElem? (i := 398) (by decide +kernel)) (by decide) rfl rfl (dec D_File_init rfl) (by rw [upW_ne _ _ (fun z => absurd z.1 (by decide))]; exact upW_self _ _ _ _) (k := 0) (Nat.le_of_ble_eq_true rfl) rfl rfl ?_
  rw [upW_comm _ _ _ (by decide), upW_upW]
  refine aw_ret_v C r (dec D_File_init rfl) (by decide) (by decide) ?_
  exact ⟨q, rfl, rfl⟩
