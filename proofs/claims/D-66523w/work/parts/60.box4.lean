/-! the box: calls that are refused; find, length, free, pageOf; printed by tools/m60.py -/
theorem c_Box_findm (l : Launch) (G : GG) (a : AD) (c : CC) (m : MM) (o : OO) (x : Int32) (hm : cMtd c = 0) : CT l G y_Box_find (.code y_Box_find b_Box_find 2 (some .int)) 8 1 6 Fno (wld G a c m o) [.ref (a 0 0), .int x] (fun r w2 => r = .inr 0 ∧ w2 = wld G a c m o) := by
  refine CT.of (by decide) (Nat.le_of_ble_eq_true rfl) rfl ?_
  intro E hl hG hF C r hw hex hnm
  subst hl; subst hG
  refine aw_aload_n (i := 0) C (dec D_Box_find rfl) rfl rfl ?_
  refine aw_cv C ci_Box_62 [] (c_Box_isMounted _ _ _ _ _ _) (dec D_Box_find rfl) rcB rfl fpP (Nat.le_of_ble_eq_true rfl) (by decide) ⟨by decide, by decide⟩ (fun v w2 hp => ?_) (fun _ _ h => by cases h.1)
  obtain ⟨hv, rfl⟩ := hp
  cases hv
  rw [hm]
  refine aw_cs C ci_Box_66 [_] (c_Box_want0 _ _ _ _ _ _) (dec D_Box_find rfl) rfl fpP (Nat.le_of_ble_eq_true rfl) (by decide) ⟨by decide, by decide⟩ (fun v w2 hp => by cases hp.1) (fun n w2 hp => ?_)
  obtain ⟨hv, rfl⟩ := hp
  cases hv
  exact at_leave C r hex (by decide) (by decide) (⟨rfl, rfl⟩)
theorem c_Box_freem (l : Launch) (G : GG) (a : AD) (c : CC) (m : MM) (o : OO)  (hm : cMtd c = 0) : CT l G y_Box_free (.code y_Box_free b_Box_free 3 (some .int)) 8 1 6 Fno (wld G a c m o) [.ref (a 0 0)] (fun r w2 => r = .inr 0 ∧ w2 = wld G a c m o) := by
  refine CT.of (by decide) (Nat.le_of_ble_eq_true rfl) rfl ?_
  intro E hl hG hF C r hw hex hnm
  subst hl; subst hG
  refine aw_aload_n (i := 0) C (dec D_Box_free rfl) rfl rfl ?_
  refine aw_cv C ci_Box_62 [] (c_Box_isMounted _ _ _ _ _ _) (dec D_Box_free rfl) rcB rfl fpP (Nat.le_of_ble_eq_true rfl) (by decide) ⟨by decide, by decide⟩ (fun v w2 hp => ?_) (fun _ _ h => by cases h.1)
  obtain ⟨hv, rfl⟩ := hp
  cases hv
  rw [hm]
  refine aw_cs C ci_Box_66 [_] (c_Box_want0 _ _ _ _ _ _) (dec D_Box_free rfl) rfl fpP (Nat.le_of_ble_eq_true rfl) (by decide) ⟨by decide, by decide⟩ (fun v w2 hp => by cases hp.1) (fun n w2 hp => ?_)
  obtain ⟨hv, rfl⟩ := hp
  cases hv
  exact at_leave C r hex (by decide) (by decide) (⟨rfl, rfl⟩)
theorem c_Box_servedm (l : Launch) (G : GG) (a : AD) (c : CC) (m : MM) (o : OO) (x : Int32) (hm : cMtd c = 0) : CT l G y_Box_served (.code y_Box_served b_Box_served 2 (some .long)) 8 1 6 Fno (wld G a c m o) [.ref (a 0 0), .int x] (fun r w2 => r = .inr 0 ∧ w2 = wld G a c m o) := by
  refine CT.of (by decide) (Nat.le_of_ble_eq_true rfl) rfl ?_
  intro E hl hG hF C r hw hex hnm
  subst hl; subst hG
  refine aw_aload_n (i := 0) C (dec D_Box_served rfl) rfl rfl ?_
  refine aw_cv C ci_Box_62 [] (c_Box_isMounted _ _ _ _ _ _) (dec D_Box_served rfl) rcB rfl fpP (Nat.le_of_ble_eq_true rfl) (by decide) ⟨by decide, by decide⟩ (fun v w2 hp => ?_) (fun _ _ h => by cases h.1)
  obtain ⟨hv, rfl⟩ := hp
  cases hv
  rw [hm]
  refine aw_cs C ci_Box_66 [_] (c_Box_want0 _ _ _ _ _ _) (dec D_Box_served rfl) rfl fpP (Nat.le_of_ble_eq_true rfl) (by decide) ⟨by decide, by decide⟩ (fun v w2 hp => by cases hp.1) (fun n w2 hp => ?_)
  obtain ⟨hv, rfl⟩ := hp
  cases hv
  exact at_leave C r hex (by decide) (by decide) (⟨rfl, rfl⟩)
theorem c_Box_syncm (l : Launch) (G : GG) (a : AD) (c : CC) (m : MM) (o : OO)  (hm : cMtd c = 0) : CT l G y_Box_sync (.code y_Box_sync b_Box_sync 5 (some .int)) 8 1 6 Fno (wld G a c m o) [.ref (a 0 0)] (fun r w2 => r = .inr 0 ∧ w2 = wld G a c m o) := by
  refine CT.of (by decide) (Nat.le_of_ble_eq_true rfl) rfl ?_
  intro E hl hG hF C r hw hex hnm
  subst hl; subst hG
  refine aw_aload_n (i := 0) C (dec D_Box_sync rfl) rfl rfl ?_
  refine aw_cv C ci_Box_62 [] (c_Box_isMounted _ _ _ _ _ _) (dec D_Box_sync rfl) rcB rfl fpP (Nat.le_of_ble_eq_true rfl) (by decide) ⟨by decide, by decide⟩ (fun v w2 hp => ?_) (fun _ _ h => by cases h.1)
  obtain ⟨hv, rfl⟩ := hp
  cases hv
  rw [hm]
  refine aw_cs C ci_Box_66 [_] (c_Box_want0 _ _ _ _ _ _) (dec D_Box_sync rfl) rfl fpP (Nat.le_of_ble_eq_true rfl) (by decide) ⟨by decide, by decide⟩ (fun v w2 hp => by cases hp.1) (fun n w2 hp => ?_)
  obtain ⟨hv, rfl⟩ := hp
  cases hv
  exact at_leave C r hex (by decide) (by decide) (⟨rfl, rfl⟩)
theorem c_Box_servem (l : Launch) (G : GG) (a : AD) (c : CC) (m : MM) (o : OO)  (hm : cMtd c = 0) : CT l G y_Box_serve (.code y_Box_serve b_Box_serve 4 (some .int)) 8 1 6 Fno (wld G a c m o) [.ref (a 0 0)] (fun r w2 => r = .inr 0 ∧ w2 = wld G a c m o) := by
  refine CT.of (by decide) (Nat.le_of_ble_eq_true rfl) rfl ?_
  intro E hl hG hF C r hw hex hnm
  subst hl; subst hG
  refine aw_aload_n (i := 0) C (dec D_Box_serve rfl) rfl rfl ?_
  refine aw_cv C ci_Box_62 [] (c_Box_isMounted _ _ _ _ _ _) (dec D_Box_serve rfl) rcB rfl fpP (Nat.le_of_ble_eq_true rfl) (by decide) ⟨by decide, by decide⟩ (fun v w2 hp => ?_) (fun _ _ h => by cases h.1)
  obtain ⟨hv, rfl⟩ := hp
  cases hv
  rw [hm]
  refine aw_cs C ci_Box_66 [_] (c_Box_want0 _ _ _ _ _ _) (dec D_Box_serve rfl) rfl fpP (Nat.le_of_ble_eq_true rfl) (by decide) ⟨by decide, by decide⟩ (fun v w2 hp => by cases hp.1) (fun n w2 hp => ?_)
  obtain ⟨hv, rfl⟩ := hp
  cases hv
  exact at_leave C r hex (by decide) (by decide) (⟨rfl, rfl⟩)
theorem c_Box_createm (l : Launch) (G : GG) (a : AD) (c : CC) (m : MM) (o : OO) (x : Int32) (hm : cMtd c = 0) : CT l G y_Box_create (.code y_Box_create b_Box_create 3 (some .int)) 8 1 6 Fno (wld G a c m o) [.ref (a 0 0), .int x] (fun r w2 => r = .inr 0 ∧ w2 = wld G a c m o) := by
  refine CT.of (by decide) (Nat.le_of_ble_eq_true rfl) rfl ?_
  intro E hl hG hF C r hw hex hnm
  subst hl; subst hG
  refine aw_aload_n (i := 0) C (dec D_Box_create rfl) rfl rfl ?_
  refine aw_cv C ci_Box_62 [] (c_Box_isMounted _ _ _ _ _ _) (dec D_Box_create rfl) rcB rfl fpP (Nat.le_of_ble_eq_true rfl) (by decide) ⟨by decide, by decide⟩ (fun v w2 hp => ?_) (fun _ _ h => by cases h.1)
  obtain ⟨hv, rfl⟩ := hp
  cases hv
  rw [hm]
  refine aw_cs C ci_Box_66 [_] (c_Box_want0 _ _ _ _ _ _) (dec D_Box_create rfl) rfl fpP (Nat.le_of_ble_eq_true rfl) (by decide) ⟨by decide, by decide⟩ (fun v w2 hp => by cases hp.1) (fun n w2 hp => ?_)
  obtain ⟨hv, rfl⟩ := hp
  cases hv
  exact at_leave C r hex (by decide) (by decide) (⟨rfl, rfl⟩)
theorem c_Box_queuem (l : Launch) (G : GG) (a : AD) (c : CC) (m : MM) (o : OO) (x y : Int32) (v : Int64) (hm : cMtd c = 0) : CT l G y_Box_queue (.code y_Box_queue b_Box_queue 5 (some .int)) 8 1 6 Fno (wld G a c m o) [.ref (a 0 0), .int x, .int y, .long v] (fun r w2 => r = .inr 0 ∧ w2 = wld G a c m o) := by
  refine CT.of (by decide) (Nat.le_of_ble_eq_true rfl) rfl ?_
  intro E hl hG hF C r hw hex hnm
  subst hl; subst hG
  refine aw_aload_n (i := 0) C (dec D_Box_queue rfl) rfl rfl ?_
  refine aw_cv C ci_Box_62 [] (c_Box_isMounted _ _ _ _ _ _) (dec D_Box_queue rfl) rcB rfl fpP (Nat.le_of_ble_eq_true rfl) (by decide) ⟨by decide, by decide⟩ (fun v w2 hp => ?_) (fun _ _ h => by cases h.1)
  obtain ⟨hv, rfl⟩ := hp
  cases hv
  rw [hm]
  refine aw_cs C ci_Box_66 [_] (c_Box_want0 _ _ _ _ _ _) (dec D_Box_queue rfl) rfl fpP (Nat.le_of_ble_eq_true rfl) (by decide) ⟨by decide, by decide⟩ (fun v w2 hp => by cases hp.1) (fun n w2 hp => ?_)
  obtain ⟨hv, rfl⟩ := hp
  cases hv
  exact at_leave C r hex (by decide) (by decide) (⟨rfl, rfl⟩)
theorem c_Box_lengthm (l : Launch) (G : GG) (a : AD) (c : CC) (m : MM) (o : OO) (x : Int32) (hm : cMtd c = 0) : CT l G y_Box_length (.code y_Box_length b_Box_length 2 (some .int)) 8 1 6 Fno (wld G a c m o) [.ref (a 0 0), .int x] (fun r w2 => r = .inr 0 ∧ w2 = wld G a c m o) := by
  refine CT.of (by decide) (Nat.le_of_ble_eq_true rfl) rfl ?_
  intro E hl hG hF C r hw hex hnm
  subst hl; subst hG
  refine aw_aload_n (i := 0) C (dec D_Box_length rfl) rfl rfl ?_
  refine aw_iload_n (i := 1) C (dec D_Box_length rfl) rfl rfl ?_
  refine aw_cv C ci_Box_152 [_] (c_Box_fileAtm _ _ _ _ _ _ _ hm) (dec D_Box_length rfl) rcB rfl fpP (Nat.le_of_ble_eq_true rfl) (by decide) ⟨by decide, by decide⟩ (fun v w2 hp => by cases hp.1) (fun n w2 hp => ?_)
  obtain ⟨hv, rfl⟩ := hp
  cases hv
  exact at_leave C r hex (by decide) (by decide) (⟨rfl, rfl⟩)
theorem c_Box_lengthx (l : Launch) (G : GG) (a : AD) (c : CC) (m : MM) (o : OO) (x : Int32) (fo : Nat → Option Nat) (hm : ¬ cMtd c = 0) (hF9 : FOk c fo) (hno : ∀ f, f < 8 → x = nI f → fo f = none) : CT l G y_Box_length (.code y_Box_length b_Box_length 2 (some .int)) 8 1 6 Fno (wld G a c m o) [.ref (a 0 0), .int x] (fun r w2 => r = .inr 1 ∧ w2 = wld G a c m o) := by
  refine CT.of (by decide) (Nat.le_of_ble_eq_true rfl) rfl ?_
  intro E hl hG hF C r hw hex hnm
  subst hl; subst hG
  refine aw_aload_n (i := 0) C (dec D_Box_length rfl) rfl rfl ?_
  refine aw_iload_n (i := 1) C (dec D_Box_length rfl) rfl rfl ?_
  refine aw_cv C ci_Box_152 [_] (c_Box_fileAtx _ _ _ _ _ _ _ fo hm hF9 hno) (dec D_Box_length rfl) rcB rfl fpP (Nat.le_of_ble_eq_true rfl) (by decide) ⟨by decide, by decide⟩ (fun v w2 hp => by cases hp.1) (fun n w2 hp => ?_)
  obtain ⟨hv, rfl⟩ := hp
  cases hv
  exact at_leave C r hex (by decide) (by decide) (⟨rfl, rfl⟩)
theorem c_Box_appendm (l : Launch) (G : GG) (a : AD) (c : CC) (m : MM) (o : OO) (x y : Int32) (hm : cMtd c = 0) : CT l G y_Box_append (.code y_Box_append b_Box_append 10 (some .int)) 8 1 6 Fno (wld G a c m o) [.ref (a 0 0), .int x, .int y] (fun r w2 => r = .inr 0 ∧ w2 = wld G a c m o) := by
  refine CT.of (by decide) (Nat.le_of_ble_eq_true rfl) rfl ?_
  intro E hl hG hF C r hw hex hnm
  subst hl; subst hG
  refine aw_aload_n (i := 0) C (dec D_Box_append rfl) rfl rfl ?_
  refine aw_iload_n (i := 1) C (dec D_Box_append rfl) rfl rfl ?_
  refine aw_cv C ci_Box_152 [_] (c_Box_fileAtm _ _ _ _ _ _ _ hm) (dec D_Box_append rfl) rcB rfl fpP (Nat.le_of_ble_eq_true rfl) (by decide) ⟨by decide, by decide⟩ (fun v w2 hp => by cases hp.1) (fun n w2 hp => ?_)
  obtain ⟨hv, rfl⟩ := hp
  cases hv
  exact at_leave C r hex (by decide) (by decide) (⟨rfl, rfl⟩)
theorem c_Box_appendx (l : Launch) (G : GG) (a : AD) (c : CC) (m : MM) (o : OO) (x y : Int32) (fo : Nat → Option Nat) (hm : ¬ cMtd c = 0) (hF9 : FOk c fo) (hno : ∀ f, f < 8 → x = nI f → fo f = none) : CT l G y_Box_append (.code y_Box_append b_Box_append 10 (some .int)) 8 1 6 Fno (wld G a c m o) [.ref (a 0 0), .int x, .int y] (fun r w2 => r = .inr 1 ∧ w2 = wld G a c m o) := by
  refine CT.of (by decide) (Nat.le_of_ble_eq_true rfl) rfl ?_
  intro E hl hG hF C r hw hex hnm
  subst hl; subst hG
  refine aw_aload_n (i := 0) C (dec D_Box_append rfl) rfl rfl ?_
  refine aw_iload_n (i := 1) C (dec D_Box_append rfl) rfl rfl ?_
  refine aw_cv C ci_Box_152 [_] (c_Box_fileAtx _ _ _ _ _ _ _ fo hm hF9 hno) (dec D_Box_append rfl) rcB rfl fpP (Nat.le_of_ble_eq_true rfl) (by decide) ⟨by decide, by decide⟩ (fun v w2 hp => by cases hp.1) (fun n w2 hp => ?_)
  obtain ⟨hv, rfl⟩ := hp
  cases hv
  exact at_leave C r hex (by decide) (by decide) (⟨rfl, rfl⟩)
theorem c_Box_byteAtm (l : Launch) (G : GG) (a : AD) (c : CC) (m : MM) (o : OO) (x y : Int32) (hm : cMtd c = 0) : CT l G y_Box_byteAt (.code y_Box_byteAt b_Box_byteAt 4 (some .int)) 8 1 6 Fno (wld G a c m o) [.ref (a 0 0), .int x, .int y] (fun r w2 => r = .inr 0 ∧ w2 = wld G a c m o) := by
  refine CT.of (by decide) (Nat.le_of_ble_eq_true rfl) rfl ?_
  intro E hl hG hF C r hw hex hnm
  subst hl; subst hG
  refine aw_aload_n (i := 0) C (dec D_Box_byteAt rfl) rfl rfl ?_
  refine aw_iload_n (i := 1) C (dec D_Box_byteAt rfl) rfl rfl ?_
  refine aw_cv C ci_Box_152 [_] (c_Box_fileAtm _ _ _ _ _ _ _ hm) (dec D_Box_byteAt rfl) rcB rfl fpP (Nat.le_of_ble_eq_true rfl) (by decide) ⟨by decide, by decide⟩ (fun v w2 hp => by cases hp.1) (fun n w2 hp => ?_)
  obtain ⟨hv, rfl⟩ := hp
  cases hv
  exact at_leave C r hex (by decide) (by decide) (⟨rfl, rfl⟩)
theorem c_Box_byteAtx (l : Launch) (G : GG) (a : AD) (c : CC) (m : MM) (o : OO) (x y : Int32) (fo : Nat → Option Nat) (hm : ¬ cMtd c = 0) (hF9 : FOk c fo) (hno : ∀ f, f < 8 → x = nI f → fo f = none) : CT l G y_Box_byteAt (.code y_Box_byteAt b_Box_byteAt 4 (some .int)) 8 1 6 Fno (wld G a c m o) [.ref (a 0 0), .int x, .int y] (fun r w2 => r = .inr 1 ∧ w2 = wld G a c m o) := by
  refine CT.of (by decide) (Nat.le_of_ble_eq_true rfl) rfl ?_
  intro E hl hG hF C r hw hex hnm
  subst hl; subst hG
  refine aw_aload_n (i := 0) C (dec D_Box_byteAt rfl) rfl rfl ?_
  refine aw_iload_n (i := 1) C (dec D_Box_byteAt rfl) rfl rfl ?_
  refine aw_cv C ci_Box_152 [_] (c_Box_fileAtx _ _ _ _ _ _ _ fo hm hF9 hno) (dec D_Box_byteAt rfl) rcB rfl fpP (Nat.le_of_ble_eq_true rfl) (by decide) ⟨by decide, by decide⟩ (fun v w2 hp => by cases hp.1) (fun n w2 hp => ?_)
  obtain ⟨hv, rfl⟩ := hp
  cases hv
  exact at_leave C r hex (by decide) (by decide) (⟨rfl, rfl⟩)
theorem c_Box_truncatem (l : Launch) (G : GG) (a : AD) (c : CC) (m : MM) (o : OO) (x y : Int32) (hm : cMtd c = 0) : CT l G y_Box_truncate (.code y_Box_truncate b_Box_truncate 5 (some .int)) 8 1 6 Fno (wld G a c m o) [.ref (a 0 0), .int x, .int y] (fun r w2 => r = .inr 0 ∧ w2 = wld G a c m o) := by
  refine CT.of (by decide) (Nat.le_of_ble_eq_true rfl) rfl ?_
  intro E hl hG hF C r hw hex hnm
  subst hl; subst hG
  refine aw_aload_n (i := 0) C (dec D_Box_truncate rfl) rfl rfl ?_
  refine aw_iload_n (i := 1) C (dec D_Box_truncate rfl) rfl rfl ?_
  refine aw_cv C ci_Box_152 [_] (c_Box_fileAtm _ _ _ _ _ _ _ hm) (dec D_Box_truncate rfl) rcB rfl fpP (Nat.le_of_ble_eq_true rfl) (by decide) ⟨by decide, by decide⟩ (fun v w2 hp => by cases hp.1) (fun n w2 hp => ?_)
  obtain ⟨hv, rfl⟩ := hp
  cases hv
  exact at_leave C r hex (by decide) (by decide) (⟨rfl, rfl⟩)
theorem c_Box_truncatex (l : Launch) (G : GG) (a : AD) (c : CC) (m : MM) (o : OO) (x y : Int32) (fo : Nat → Option Nat) (hm : ¬ cMtd c = 0) (hF9 : FOk c fo) (hno : ∀ f, f < 8 → x = nI f → fo f = none) : CT l G y_Box_truncate (.code y_Box_truncate b_Box_truncate 5 (some .int)) 8 1 6 Fno (wld G a c m o) [.ref (a 0 0), .int x, .int y] (fun r w2 => r = .inr 1 ∧ w2 = wld G a c m o) := by
  refine CT.of (by decide) (Nat.le_of_ble_eq_true rfl) rfl ?_
  intro E hl hG hF C r hw hex hnm
  subst hl; subst hG
  refine aw_aload_n (i := 0) C (dec D_Box_truncate rfl) rfl rfl ?_
  refine aw_iload_n (i := 1) C (dec D_Box_truncate rfl) rfl rfl ?_
  refine aw_cv C ci_Box_152 [_] (c_Box_fileAtx _ _ _ _ _ _ _ fo hm hF9 hno) (dec D_Box_truncate rfl) rcB rfl fpP (Nat.le_of_ble_eq_true rfl) (by decide) ⟨by decide, by decide⟩ (fun v w2 hp => by cases hp.1) (fun n w2 hp => ?_)
  obtain ⟨hv, rfl⟩ := hp
  cases hv
  exact at_leave C r hex (by decide) (by decide) (⟨rfl, rfl⟩)
theorem c_Box_pageOfm (l : Launch) (G : GG) (a : AD) (c : CC) (m : MM) (o : OO) (x y : Int32) (hm : cMtd c = 0) : CT l G y_Box_pageOf (.code y_Box_pageOf b_Box_pageOf 4 (some .int)) 8 1 6 Fno (wld G a c m o) [.ref (a 0 0), .int x, .int y] (fun r w2 => r = .inr 0 ∧ w2 = wld G a c m o) := by
  refine CT.of (by decide) (Nat.le_of_ble_eq_true rfl) rfl ?_
  intro E hl hG hF C r hw hex hnm
  subst hl; subst hG
  refine aw_aload_n (i := 0) C (dec D_Box_pageOf rfl) rfl rfl ?_
  refine aw_iload_n (i := 1) C (dec D_Box_pageOf rfl) rfl rfl ?_
  refine aw_cv C ci_Box_152 [_] (c_Box_fileAtm _ _ _ _ _ _ _ hm) (dec D_Box_pageOf rfl) rcB rfl fpP (Nat.le_of_ble_eq_true rfl) (by decide) ⟨by decide, by decide⟩ (fun v w2 hp => by cases hp.1) (fun n w2 hp => ?_)
  obtain ⟨hv, rfl⟩ := hp
  cases hv
  exact at_leave C r hex (by decide) (by decide) (⟨rfl, rfl⟩)
theorem c_Box_pageOfx (l : Launch) (G : GG) (a : AD) (c : CC) (m : MM) (o : OO) (x y : Int32) (fo : Nat → Option Nat) (hm : ¬ cMtd c = 0) (hF9 : FOk c fo) (hno : ∀ f, f < 8 → x = nI f → fo f = none) : CT l G y_Box_pageOf (.code y_Box_pageOf b_Box_pageOf 4 (some .int)) 8 1 6 Fno (wld G a c m o) [.ref (a 0 0), .int x, .int y] (fun r w2 => r = .inr 1 ∧ w2 = wld G a c m o) := by
  refine CT.of (by decide) (Nat.le_of_ble_eq_true rfl) rfl ?_
  intro E hl hG hF C r hw hex hnm
  subst hl; subst hG
  refine aw_aload_n (i := 0) C (dec D_Box_pageOf rfl) rfl rfl ?_
  refine aw_iload_n (i := 1) C (dec D_Box_pageOf rfl) rfl rfl ?_
  refine aw_cv C ci_Box_152 [_] (c_Box_fileAtx _ _ _ _ _ _ _ fo hm hF9 hno) (dec D_Box_pageOf rfl) rcB rfl fpP (Nat.le_of_ble_eq_true rfl) (by decide) ⟨by decide, by decide⟩ (fun v w2 hp => by cases hp.1) (fun n w2 hp => ?_)
  obtain ⟨hv, rfl⟩ := hp
  cases hv
  exact at_leave C r hex (by decide) (by decide) (⟨rfl, rfl⟩)
theorem c_Box_removem (l : Launch) (G : GG) (a : AD) (c : CC) (m : MM) (o : OO) (x : Int32) (hm : cMtd c = 0) : CT l G y_Box_remove (.code y_Box_remove b_Box_remove 3 (some .int)) 8 1 6 Fno (wld G a c m o) [.ref (a 0 0), .int x] (fun r w2 => r = .inr 0 ∧ w2 = wld G a c m o) := by
  refine CT.of (by decide) (Nat.le_of_ble_eq_true rfl) rfl ?_
  intro E hl hG hF C r hw hex hnm
  subst hl; subst hG
  refine aw_aload_n (i := 0) C (dec D_Box_remove rfl) rfl rfl ?_
  refine gf_Box_34 C (dec D_Box_remove rfl) ?_
  refine aw_aload_n (i := 0) C (dec D_Box_remove rfl) rfl rfl ?_
  refine aw_iload_n (i := 1) C (dec D_Box_remove rfl) rfl rfl ?_
  refine aw_cv C ci_Box_152 [_] (c_Box_fileAtm _ _ _ _ _ _ _ hm) (dec D_Box_remove rfl) rcB rfl fpP (Nat.le_of_ble_eq_true rfl) (by decide) ⟨by decide, by decide⟩ (fun v w2 hp => by cases hp.1) (fun n w2 hp => ?_)
  obtain ⟨hv, rfl⟩ := hp
  cases hv
  exact at_leave C r hex (by decide) (by decide) (⟨rfl, rfl⟩)
theorem c_Box_removex (l : Launch) (G : GG) (a : AD) (c : CC) (m : MM) (o : OO) (x : Int32) (fo : Nat → Option Nat) (hm : ¬ cMtd c = 0) (hF9 : FOk c fo) (hno : ∀ f, f < 8 → x = nI f → fo f = none) : CT l G y_Box_remove (.code y_Box_remove b_Box_remove 3 (some .int)) 8 1 6 Fno (wld G a c m o) [.ref (a 0 0), .int x] (fun r w2 => r = .inr 1 ∧ w2 = wld G a c m o) := by
  refine CT.of (by decide) (Nat.le_of_ble_eq_true rfl) rfl ?_
  intro E hl hG hF C r hw hex hnm
  subst hl; subst hG
  refine aw_aload_n (i := 0) C (dec D_Box_remove rfl) rfl rfl ?_
  refine gf_Box_34 C (dec D_Box_remove rfl) ?_
  refine aw_aload_n (i := 0) C (dec D_Box_remove rfl) rfl rfl ?_
  refine aw_iload_n (i := 1) C (dec D_Box_remove rfl) rfl rfl ?_
  refine aw_cv C ci_Box_152 [_] (c_Box_fileAtx _ _ _ _ _ _ _ fo hm hF9 hno) (dec D_Box_remove rfl) rcB rfl fpP (Nat.le_of_ble_eq_true rfl) (by decide) ⟨by decide, by decide⟩ (fun v w2 hp => by cases hp.1) (fun n w2 hp => ?_)
  obtain ⟨hv, rfl⟩ := hp
  cases hv
  exact at_leave C r hex (by decide) (by decide) (⟨rfl, rfl⟩)
theorem c_Box_find1 (l : Launch) (G : GG) (a : AD) (c : CC) (m : MM) (o : OO) (x : Int32) (fo : Nat → Option Nat) (hm : ¬ cMtd c = 0) (hF9 : FOk c fo) : CT l G y_Box_find (.code y_Box_find b_Box_find 2 (some .int)) 1 0 0 Fno (wld G a c m o) [.ref (a 0 0), .int x] (fun r w2 => r = .inl (some (.int (cNum c fo x))) ∧ w2 = wld G a c m o) := by
  refine CT.of (by decide) (Nat.le_of_ble_eq_true rfl) rfl ?_
  intro E hl hG hF C r hw hex hnm
  subst hl; subst hG
  refine aw_aload_n (i := 0) C (dec D_Box_find rfl) rfl rfl ?_
  refine aw_cv C ci_Box_62 [] (c_Box_isMounted _ _ _ _ _ _) (dec D_Box_find rfl) rcB rfl fpP (Nat.le_of_ble_eq_true rfl) (by decide) ⟨by decide, by decide⟩ (fun v w2 hp => ?_) (fun _ _ h => by cases h.1)
  obtain ⟨hv, rfl⟩ := hp
  cases hv
  refine aw_cs C ci_Box_66 [_] (c_Box_want1 _ _ _ _ _ _ _ hm) (dec D_Box_find rfl) rfl fpP (Nat.le_of_ble_eq_true rfl) (by decide) ⟨by decide, by decide⟩ (fun v w2 hp => ?_) (fun _ _ h => by cases h.1)
  obtain ⟨hv, rfl⟩ := hp
  cases hv
  refine aw_aload_n (i := 0) C (dec D_Box_find rfl) rfl rfl ?_
  refine aw_iload_n (i := 1) C (dec D_Box_find rfl) rfl rfl ?_
  refine aw_cv C ci_Box_144 [_] (c_Box_numberOf _ _ _ _ _ _ _ fo hF9) (dec D_Box_find rfl) rcB rfl fpP (Nat.le_of_ble_eq_true rfl) (by decide) ⟨by decide, by decide⟩ (fun v w2 hp => ?_) (fun _ _ h => by cases h.1)
  obtain ⟨hv, rfl⟩ := hp
  cases hv
  refine aw_ret_i C r (dec D_Box_find rfl) rfl (by decide) (by decide) ?_
  exact ⟨rfl, rfl⟩
theorem c_Box_length1 (l : Launch) (G : GG) (a : AD) (c : CC) (m : MM) (o : OO) (f j : Nat) (fo : Nat → Option Nat) (hm : ¬ cMtd c = 0) (hF9 : FOk c fo) (hf : f < 8) (hfj : fo f = some j) : CT l G y_Box_length (.code y_Box_length b_Box_length 2 (some .int)) 2 0 0 Fno (wld G a c m o) [.ref (a 0 0), .int (nI f)] (fun r w2 => r = .inl (some (.int (cI c 12 j))) ∧ w2 = wld G a c m o) := by
  refine CT.of (by decide) (Nat.le_of_ble_eq_true rfl) rfl ?_
  intro E hl hG hF C r hw hex hnm
  subst hl; subst hG
  have hj := (hF9 f hf).2 j hfj
  refine aw_aload_n (i := 0) C (dec D_Box_length rfl) rfl rfl ?_
  refine aw_iload_n (i := 1) C (dec D_Box_length rfl) rfl rfl ?_
  refine aw_cv C ci_Box_152 [_] (c_Box_fileAt1 _ _ _ _ _ _ f j fo hm hF9 hf hfj) (dec D_Box_length rfl) rcB rfl fpP (Nat.le_of_ble_eq_true rfl) (by decide) ⟨by decide, by decide⟩ (fun v w2 hp => ?_) (fun _ _ h => by cases h.1)
  obtain ⟨hv, rfl⟩ := hp
  cases hv
  refine gf_Box_156 C hj (dec D_Box_length rfl) ?_
  refine aw_ret_i C r (dec D_Box_length rfl) rfl (by decide) (by decide) ?_
  exact ⟨rfl, rfl⟩
def cFrN (c : CC) : Nat → Int32
  | 0 => 0
  | t + 1 => cFrN c t + bI (cFree c t)
theorem c_Box_free1 (l : Launch) (G : GG) (a : AD) (c : CC) (m : MM) (o : OO)  (hm : ¬ cMtd c = 0) : CT l G y_Box_free (.code y_Box_free b_Box_free 3 (some .int)) 1 0 0 Fno (wld G a c m o) [.ref (a 0 0)] (fun r w2 => r = .inl (some (.int (cFrN c 101))) ∧ w2 = wld G a c m o) := by
  refine CT.of (by decide) (Nat.le_of_ble_eq_true rfl) rfl ?_
  intro E hl hG hF C r hw hex hnm
  subst hl; subst hG
  have lp : ∀ (n t : Nat) , 101 - t < n → t ≤ 101 → AW E true 0 0 (wld (eG E) a c m o) 11 [(0, .ref (a 0 0)), (1, .int (cFrN c t)), (2, .int (nI t))] [] := by
    intro n
    induction n with
    | zero => intro t  h1 h2; omega
    | succ n ih =>
      intro t  h1t h2t
      refine aw_iload_n (i := 2) C (dec D_Box_free rfl) rfl rfl ?_
      refine aw_bipush (v := 101) C (dec D_Box_free rfl) (by decide) ?_
      refine aw_icmp_ge (tgt := 42) C (dec D_Box_free rfl) (by decide) (fun hb => ?_) (fun hb => ?_)
      · try simp only [mI_I, mL_I, mA_I, mJ_I, mI_L, mL_L, mA_L, mJ_L, mI_A, mL_A, mA_A, mJ_A, mI_J, mL_J, mA_J, mJ_J, cI_I, cL_I, cA_I, cJ_I, cR_I, cN_I, cI_L, cL_L, cA_L, cJ_L, cR_L, cN_L, cI_A, cL_A, cA_A, cJ_A, cR_A, cN_A, cI_J, cL_J, cA_J, cJ_J, cR_J, cN_J, cI_R, cL_R, cA_R, cJ_R, cR_R, cN_R, cI_N, cL_N, cA_N, cJ_N, cR_N, cN_N, ↓reduceIte, Nat.reduceEqDiff, upd_at, updL_at] at hb
        have e9 : t = 101 := by have := ix_ge (N := 101) hb; omega
        subst e9
        refine aw_iload_n (i := 1) C (dec D_Box_free rfl) rfl rfl ?_
        refine aw_ret_i C r (dec D_Box_free rfl) rfl (by decide) (by decide) ?_
        exact ⟨rfl, rfl⟩
      · try simp only [mI_I, mL_I, mA_I, mJ_I, mI_L, mL_L, mA_L, mJ_L, mI_A, mL_A, mA_A, mJ_A, mI_J, mL_J, mA_J, mJ_J, cI_I, cL_I, cA_I, cJ_I, cR_I, cN_I, cI_L, cL_L, cA_L, cJ_L, cR_L, cN_L, cI_A, cL_A, cA_A, cJ_A, cR_A, cN_A, cI_J, cL_J, cA_J, cJ_J, cR_J, cN_J, cI_R, cL_R, cA_R, cJ_R, cR_R, cN_R, cI_N, cL_N, cA_N, cJ_N, cR_N, cN_N, ↓reduceIte, Nat.reduceEqDiff, upd_at, updL_at] at hb
        have htt : t < 101 := ix_lt (N := 101) hb
        refine aw_iload_n (i := 1) C (dec D_Box_free rfl) rfl rfl ?_
        refine aw_aload_n (i := 0) C (dec D_Box_free rfl) rfl rfl ?_
        refine gf_Box_34 C (dec D_Box_free rfl) ?_
        refine aw_iload_n (i := 2) C (dec D_Box_free rfl) rfl rfl ?_
        refine aw_cv C ci_Box_212 [_] (c_Dir_isFree _ _ _ _ _ _ t htt) (dec D_Box_free rfl) rcD rfl fpP (Nat.le_of_ble_eq_true rfl) (by decide) ⟨by decide, by decide⟩ (fun v w2 hp => ?_) (fun _ _ h => by cases h.1)
        obtain ⟨hv, rfl⟩ := hp
        cases hv
        refine aw_if_eq (tgt := 33) C (dec D_Box_free rfl) (by decide) (fun h26 => ?_) (fun h26 => ?_)
        · refine aw_iconst (v := 0) C (dec D_Box_free rfl) (by decide) ?_
          have hz := bI_0.mp h26
          refine aw_iadd C (dec D_Box_free rfl) ?_
          refine aw_istore_n (i := 1) C (dec D_Box_free rfl) rfl (by decide) ?_
          refine aw_iinc C (dec D_Box_free rfl) rfl (nI_inc t) (by decide) ?_
          refine aw_goto (tgt := 11) C (dec D_Box_free rfl) (by decide) ?_
          refine AW.ls [(0, .ref (a 0 0)), (1, .int (cFrN c (t + 1))), (2, .int (nI (t + 1)))] (by rw [cFrN, bI, hz]; rfl) ?_
          exact ih (t + 1) (by omega) (by omega)
        · refine aw_iconst (v := 1) C (dec D_Box_free rfl) (by decide) ?_
          refine aw_goto (tgt := 34) C (dec D_Box_free rfl) (by decide) ?_
          have hz : cFree c t = true := by have z := mt bI_0.mpr h26; simpa using z
          refine aw_iadd C (dec D_Box_free rfl) ?_
          refine aw_istore_n (i := 1) C (dec D_Box_free rfl) rfl (by decide) ?_
          refine aw_iinc C (dec D_Box_free rfl) rfl (nI_inc t) (by decide) ?_
          refine aw_goto (tgt := 11) C (dec D_Box_free rfl) (by decide) ?_
          refine AW.ls [(0, .ref (a 0 0)), (1, .int (cFrN c (t + 1))), (2, .int (nI (t + 1)))] (by rw [cFrN, bI, hz]; rfl) ?_
          exact ih (t + 1) (by omega) (by omega)
  refine aw_aload_n (i := 0) C (dec D_Box_free rfl) rfl rfl ?_
  refine aw_cv C ci_Box_62 [] (c_Box_isMounted _ _ _ _ _ _) (dec D_Box_free rfl) rcB rfl fpP (Nat.le_of_ble_eq_true rfl) (by decide) ⟨by decide, by decide⟩ (fun v w2 hp => ?_) (fun _ _ h => by cases h.1)
  obtain ⟨hv, rfl⟩ := hp
  cases hv
  refine aw_cs C ci_Box_66 [_] (c_Box_want1 _ _ _ _ _ _ _ hm) (dec D_Box_free rfl) rfl fpP (Nat.le_of_ble_eq_true rfl) (by decide) ⟨by decide, by decide⟩ (fun v w2 hp => ?_) (fun _ _ h => by cases h.1)
  obtain ⟨hv, rfl⟩ := hp
  cases hv
  refine aw_iconst (v := 0) C (dec D_Box_free rfl) (by decide) ?_
  refine aw_istore_n (i := 1) C (dec D_Box_free rfl) rfl (by decide) ?_
  refine aw_iconst (v := 0) C (dec D_Box_free rfl) (by decide) ?_
  refine aw_istore_n (i := 2) C (dec D_Box_free rfl) rfl (by decide) ?_
  exact lp 102 0 (by omega) (by omega)
