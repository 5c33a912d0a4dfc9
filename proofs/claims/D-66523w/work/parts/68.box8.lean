/-! the box: queue; printed by tools/m68.py -/
theorem c_Box_queuex (l : Launch) (G : GG) (a : AD) (c : CC) (m : MM) (o : OO) (x y : Int32) (v : Int64) (hm : ¬ cMtd c = 0) (hw9 : wth x 0 100 = 0) : CT l G y_Box_queue (.code y_Box_queue b_Box_queue 5 (some .int)) 7 1 6 Fno (wld G a c m o) [.ref (a 0 0), .int x, .int y, .long v] (fun r w2 => r = .inr 1 ∧ w2 = wld G a c m o) := by
  refine CT.of (by decide) (Nat.le_of_ble_eq_true rfl) rfl ?_
  intro E hl hG hF C r hw hex hnm
  subst hl; subst hG
  refine aw_aload_n (i := 0) C (dec D_Box_queue rfl) rfl rfl ?_
  refine aw_cv C ci_Box_62 [] (c_Box_isMounted _ _ _ _ _ _) (dec D_Box_queue rfl) rcB rfl fpP (Nat.le_of_ble_eq_true rfl) (by decide) ⟨by decide, by decide⟩ (fun v w2 hp => ?_) (fun _ _ h => by cases h.1)
  obtain ⟨hv, rfl⟩ := hp
  cases hv
  refine aw_cs C ci_Box_66 [_] (c_Box_want1 _ _ _ _ _ _ _ hm) (dec D_Box_queue rfl) rfl fpP (Nat.le_of_ble_eq_true rfl) (by decide) ⟨by decide, by decide⟩ (fun v w2 hp => ?_) (fun _ _ h => by cases h.1)
  obtain ⟨hv, rfl⟩ := hp
  cases hv
  refine aw_iload_n (i := 1) C (dec D_Box_queue rfl) rfl rfl ?_
  refine aw_iconst (v := 0) C (dec D_Box_queue rfl) (by decide) ?_
  refine aw_bipush (v := 100) C (dec D_Box_queue rfl) (by decide) ?_
  refine aw_cs C ci_Box_70 [_, _, _] (c_Box_within _ _ _ _ _ _ _ _ _) (dec D_Box_queue rfl) rfl fpP (Nat.le_of_ble_eq_true rfl) (by decide) ⟨by decide, by decide⟩ (fun v w2 hp => ?_) (fun _ _ h => by cases h.1)
  obtain ⟨hv, rfl⟩ := hp
  cases hv
  rw [hw9]
  refine aw_cs C ci_Box_78 [_] (c_Box_argue0 _ _ _ _ _ _) (dec D_Box_queue rfl) rfl fpP (Nat.le_of_ble_eq_true rfl) (by decide) ⟨by decide, by decide⟩ (fun v w2 hp => by cases hp.1) (fun n w2 hp => ?_)
  obtain ⟨hv, rfl⟩ := hp
  cases hv
  exact at_leave C r hex (by decide) (by decide) (⟨rfl, rfl⟩)
theorem c_Box_queueu (l : Launch) (G : GG) (a : AD) (c : CC) (m : MM) (o : OO) (x y : Int32) (v : Int64) (hm : ¬ cMtd c = 0) (hw9 : ¬ wth x 0 100 = 0) (hq : cI c 8 0 = nI 16) : CT l G y_Box_queue (.code y_Box_queue b_Box_queue 5 (some .int)) 6 1 6 Fno (wld G a c m o) [.ref (a 0 0), .int x, .int y, .long v] (fun r w2 => r = .inr 2 ∧ w2 = wld G a c m o) := by
  refine CT.of (by decide) (Nat.le_of_ble_eq_true rfl) rfl ?_
  intro E hl hG hF C r hw hex hnm
  subst hl; subst hG
  refine aw_aload_n (i := 0) C (dec D_Box_queue rfl) rfl rfl ?_
  refine aw_cv C ci_Box_62 [] (c_Box_isMounted _ _ _ _ _ _) (dec D_Box_queue rfl) rcB rfl fpP (Nat.le_of_ble_eq_true rfl) (by decide) ⟨by decide, by decide⟩ (fun v w2 hp => ?_) (fun _ _ h => by cases h.1)
  obtain ⟨hv, rfl⟩ := hp
  cases hv
  refine aw_cs C ci_Box_66 [_] (c_Box_want1 _ _ _ _ _ _ _ hm) (dec D_Box_queue rfl) rfl fpP (Nat.le_of_ble_eq_true rfl) (by decide) ⟨by decide, by decide⟩ (fun v w2 hp => ?_) (fun _ _ h => by cases h.1)
  obtain ⟨hv, rfl⟩ := hp
  cases hv
  refine aw_iload_n (i := 1) C (dec D_Box_queue rfl) rfl rfl ?_
  refine aw_iconst (v := 0) C (dec D_Box_queue rfl) (by decide) ?_
  refine aw_bipush (v := 100) C (dec D_Box_queue rfl) (by decide) ?_
  refine aw_cs C ci_Box_70 [_, _, _] (c_Box_within _ _ _ _ _ _ _ _ _) (dec D_Box_queue rfl) rfl fpP (Nat.le_of_ble_eq_true rfl) (by decide) ⟨by decide, by decide⟩ (fun v w2 hp => ?_) (fun _ _ h => by cases h.1)
  obtain ⟨hv, rfl⟩ := hp
  cases hv
  refine aw_cs C ci_Box_78 [_] (c_Box_argue1 _ _ _ _ _ _ _ hw9) (dec D_Box_queue rfl) rfl fpP (Nat.le_of_ble_eq_true rfl) (by decide) ⟨by decide, by decide⟩ (fun v w2 hp => ?_) (fun _ _ h => by cases h.1)
  obtain ⟨hv, rfl⟩ := hp
  cases hv
  refine aw_aload_n (i := 0) C (dec D_Box_queue rfl) rfl rfl ?_
  refine gf_Box_48 C (dec D_Box_queue rfl) ?_
  refine aw_cv C ci_Box_219 [] (c_AL_size _ _ _ _ _ _ 0 (by decide)) (dec D_Box_queue rfl) (rcA (j := 0) (by decide)) rfl fpP (Nat.le_of_ble_eq_true rfl) (by decide) ⟨by decide, by decide⟩ (fun v w2 hp => ?_) (fun _ _ h => by cases h.1)
  obtain ⟨hv, rfl⟩ := hp
  cases hv
  rw [hq]
  refine aw_bipush (v := 16) C (dec D_Box_queue rfl) (by decide) ?_
  refine aw_icmp_ne (tgt := 37) C (dec D_Box_queue rfl) (by decide) (fun h => absurd rfl h) (fun _ => ?_)
  exact aw_throw C r hex hw xi_2 (dec D_Box_queue rfl) (dec D_Box_queue rfl) (dec D_Box_queue rfl) (dec D_Box_queue rfl) (by decide) (by decide) (by decide) (by decide) ⟨rfl, rfl⟩
theorem c_Box_queuer (l : Launch) (G : GG) (a : AD) (c : CC) (m : MM) (o : OO) (x y : Int32) (v : Int64) (s : Nat) (hm : ¬ cMtd c = 0) (hw9 : ¬ wth x 0 100 = 0) (hy : y = 0 ∨ y = 1) (hel : ∀ i j z, cR c 14 i j = some z → z < cN c 19 0) (hsz : s < 16) (hs : cI c 8 0 = nI s) (hc9 : s < cN c 14 0 ∧ cN c 14 0 ≤ 100) : CT l G y_Box_queue (.code y_Box_queue b_Box_queue 5 (some .int)) 8 1 5 (Fyes G) (wld G a c m o) [.ref (a 0 0), .int x, .int y, .long v] (fun r w2 => ∃ q0, r = .inl (some (.int (nI s))) ∧ w2 = wld G (up2 a 19 (cN c 19 0) q0) (sI (sR (sI (newQ c x y v) 7 0 (cI (newQ c x y v) 7 0 + 1)) 14 0 (rup (cR (sI (newQ c x y v) 7 0 (cI (newQ c x y v) 7 0 + 1)) 14 0) s (some (cN c 19 0)))) 8 0 (nI (s + 1))) m o) := by
  refine CT.of (by decide) (Nat.le_of_ble_eq_true rfl) rfl ?_
  intro E hl hG hF C r hw hex hnm
  subst hl; subst hG
  have Fw : Cw E := fun a h => by rw [hF]; exact h
  refine aw_aload_n (i := 0) C (dec D_Box_queue rfl) rfl rfl ?_
  refine aw_cv C ci_Box_62 [] (c_Box_isMounted _ _ _ _ _ _) (dec D_Box_queue rfl) rcB rfl fpP (Nat.le_of_ble_eq_true rfl) (by decide) ⟨by decide, by decide⟩ (fun v w2 hp => ?_) (fun _ _ h => by cases h.1)
  obtain ⟨hv, rfl⟩ := hp
  cases hv
  refine aw_cs C ci_Box_66 [_] (c_Box_want1 _ _ _ _ _ _ _ hm) (dec D_Box_queue rfl) rfl fpP (Nat.le_of_ble_eq_true rfl) (by decide) ⟨by decide, by decide⟩ (fun v w2 hp => ?_) (fun _ _ h => by cases h.1)
  obtain ⟨hv, rfl⟩ := hp
  cases hv
  refine aw_iload_n (i := 1) C (dec D_Box_queue rfl) rfl rfl ?_
  refine aw_iconst (v := 0) C (dec D_Box_queue rfl) (by decide) ?_
  refine aw_bipush (v := 100) C (dec D_Box_queue rfl) (by decide) ?_
  refine aw_cs C ci_Box_70 [_, _, _] (c_Box_within _ _ _ _ _ _ _ _ _) (dec D_Box_queue rfl) rfl fpP (Nat.le_of_ble_eq_true rfl) (by decide) ⟨by decide, by decide⟩ (fun v w2 hp => ?_) (fun _ _ h => by cases h.1)
  obtain ⟨hv, rfl⟩ := hp
  cases hv
  refine aw_cs C ci_Box_78 [_] (c_Box_argue1 _ _ _ _ _ _ _ hw9) (dec D_Box_queue rfl) rfl fpP (Nat.le_of_ble_eq_true rfl) (by decide) ⟨by decide, by decide⟩ (fun v w2 hp => ?_) (fun _ _ h => by cases h.1)
  obtain ⟨hv, rfl⟩ := hp
  cases hv
  refine aw_aload_n (i := 0) C (dec D_Box_queue rfl) rfl rfl ?_
  refine gf_Box_48 C (dec D_Box_queue rfl) ?_
  refine aw_cv C ci_Box_219 [] (c_AL_size _ _ _ _ _ _ 0 (by decide)) (dec D_Box_queue rfl) (rcA (j := 0) (by decide)) rfl fpP (Nat.le_of_ble_eq_true rfl) (by decide) ⟨by decide, by decide⟩ (fun v w2 hp => ?_) (fun _ _ h => by cases h.1)
  obtain ⟨hv, rfl⟩ := hp
  cases hv
  rw [hs]
  refine aw_bipush (v := 16) C (dec D_Box_queue rfl) (by decide) ?_
  refine aw_icmp_ne (tgt := 37) C (dec D_Box_queue rfl) (by decide) (fun _ => ?_) (fun h => absurd ((nI_eq (a := s) (b := 16) (by omega) (by omega)).mp h) (by omega))
  refine aw_aload_n (i := 0) C (dec D_Box_queue rfl) rfl rfl ?_
  refine gf_Box_48 C (dec D_Box_queue rfl) ?_
  refine aw_new C 19 (cN c 19 0) [.int 0, .int 0, .long 0, .int 0, .long 0] cl_Req (List.mem_of_getElem? (i := 687) (by decide +kernel)) (List.mem_of_getElem? (i := 688) (by decide +kernel)) (List.mem_of_getElem? (i := 60) (by decide +kernel)) (by decide) (dec D_Box_queue rfl) ⟨by decide, by decide⟩ (fun q0 => ?_)
  refine aw_dup C (dec D_Box_queue rfl) rfl ?_
  refine aw_iload_n (i := 1) C (dec D_Box_queue rfl) rfl rfl ?_
  refine aw_iload_n (i := 2) C (dec D_Box_queue rfl) rfl rfl ?_
  refine aw_lload_n (i := 3) C (dec D_Box_queue rfl) rfl rfl ?_
  refine aw_ci C ci_Box_224 [_, _, _] (c_Req_init _ _ _ 19 (cN c 19 0) q0 x y v hy) (dec D_Box_queue rfl) rfl (fpW Fw) (Nat.le_of_ble_eq_true rfl) (by decide) ⟨by decide, by decide⟩ (fun v w2 hp => ?_) (fun _ _ h => by cases h.1)
  obtain ⟨hv, rfl⟩ := hp
  cases hv
  rw [w_newQ hel]
  refine AW.eq rfl rfl (st' := [.ref ((up2 a 19 (cN c 19 0) q0) 19 (cN c 19 0)), .ref ((up2 a 19 (cN c 19 0) q0) 13 0)]) (by simp [up2]) ?_
  refine aw_cv C ci_Box_227 [_] (c_AL_add_1r _ _ (up2 a 19 (cN c 19 0) q0) (newQ c x y v) _ _ 0 (cN c 19 0) s (by decide) (Nat.lt_succ_self _) hc9 hs) (dec D_Box_queue rfl) (rcA (a := (up2 a 19 (cN c 19 0) q0)) (j := 0) (by decide)) rfl (fpW Fw) (Nat.le_of_ble_eq_true rfl) (by decide) ⟨by decide, by decide⟩ (fun v w2 hp => ?_) (fun _ _ h => by cases h.1)
  obtain ⟨hv, rfl⟩ := hp
  cases hv
  refine aw_pop C (dec D_Box_queue rfl) rfl ?_
  refine aw_aload_n (i := 0) C (dec D_Box_queue rfl) rfl rfl ?_
  change AW E _ _ _ _ _ _ [.ref ((up2 a 19 (cN c 19 0) q0) 0 0)]
  refine gf_Box_48 C (dec D_Box_queue rfl) ?_
  refine aw_cv C ci_Box_219 [] (c_AL_size _ _ (up2 a 19 (cN c 19 0) q0) _ _ _ 0 (by decide)) (dec D_Box_queue rfl) (rcA (a := (up2 a 19 (cN c 19 0) q0)) (j := 0) (by decide)) rfl fpP (Nat.le_of_ble_eq_true rfl) (by decide) ⟨by decide, by decide⟩ (fun v w2 hp => ?_) (fun _ _ h => by cases h.1)
  obtain ⟨hv, rfl⟩ := hp
  cases hv
  refine aw_iconst (v := 1) C (dec D_Box_queue rfl) (by decide) ?_
  refine aw_isub C (dec D_Box_queue rfl) ?_
  change AW E _ _ _ _ _ _ [.int (nI (s + 1) - 1)]
  rw [show (1 : Int32) = nI 1 from rfl, pk_sub (by omega), Nat.add_sub_cancel]
  refine aw_ret_i C r (dec D_Box_queue rfl) rfl (by decide) (by decide) ?_
  exact ⟨q0, rfl, rfl⟩
theorem c_Box_queue1 (l : Launch) (G : GG) (a : AD) (c : CC) (m : MM) (o : OO) (x y : Int32) (v : Int64) (s : Nat) (hm : ¬ cMtd c = 0) (hw9 : ¬ wth x 0 100 = 0) (hy : y = 0 ∨ y = 1) (hel : ∀ i j z, cR c 14 i j = some z → z < cN c 19 0) (hsz : s < 16) (hs : cI c 8 0 = nI s) (hn : ¬ cN c 14 0 = 0) (hN : cN c 14 0 ≤ 60) (hcs : s = cN c 14 0) : CT l G y_Box_queue (.code y_Box_queue b_Box_queue 5 (some .int)) 8 2 105 (Fyes G) (wld G a c m o) [.ref (a 0 0), .int x, .int y, .long v] (fun r w2 => ∃ q0 q1, r = .inl (some (.int (nI s))) ∧ w2 = wld G (up2 (up2 a 19 (cN c 19 0) q0) 14 0 q1) (sI (sR (gro (sI (newQ c x y v) 7 0 (cI (newQ c x y v) 7 0 + 1)) 0 (cN c 14 0 + max 1 (cN c 14 0 / 2)) (keep c 0)) 14 0 (rup (cR (gro (sI (newQ c x y v) 7 0 (cI (newQ c x y v) 7 0 + 1)) 0 (cN c 14 0 + max 1 (cN c 14 0 / 2)) (keep c 0)) 14 0) (cN c 14 0) (some (cN c 19 0)))) 8 0 (nI ((cN c 14 0) + 1))) m o) := by
  refine CT.of (by decide) (Nat.le_of_ble_eq_true rfl) rfl ?_
  intro E hl hG hF C r hw hex hnm
  subst hl; subst hG
  have Fw : Cw E := fun a h => by rw [hF]; exact h
  refine aw_aload_n (i := 0) C (dec D_Box_queue rfl) rfl rfl ?_
  refine aw_cv C ci_Box_62 [] (c_Box_isMounted _ _ _ _ _ _) (dec D_Box_queue rfl) rcB rfl fpP (Nat.le_of_ble_eq_true rfl) (by decide) ⟨by decide, by decide⟩ (fun v w2 hp => ?_) (fun _ _ h => by cases h.1)
  obtain ⟨hv, rfl⟩ := hp
  cases hv
  refine aw_cs C ci_Box_66 [_] (c_Box_want1 _ _ _ _ _ _ _ hm) (dec D_Box_queue rfl) rfl fpP (Nat.le_of_ble_eq_true rfl) (by decide) ⟨by decide, by decide⟩ (fun v w2 hp => ?_) (fun _ _ h => by cases h.1)
  obtain ⟨hv, rfl⟩ := hp
  cases hv
  refine aw_iload_n (i := 1) C (dec D_Box_queue rfl) rfl rfl ?_
  refine aw_iconst (v := 0) C (dec D_Box_queue rfl) (by decide) ?_
  refine aw_bipush (v := 100) C (dec D_Box_queue rfl) (by decide) ?_
  refine aw_cs C ci_Box_70 [_, _, _] (c_Box_within _ _ _ _ _ _ _ _ _) (dec D_Box_queue rfl) rfl fpP (Nat.le_of_ble_eq_true rfl) (by decide) ⟨by decide, by decide⟩ (fun v w2 hp => ?_) (fun _ _ h => by cases h.1)
  obtain ⟨hv, rfl⟩ := hp
  cases hv
  refine aw_cs C ci_Box_78 [_] (c_Box_argue1 _ _ _ _ _ _ _ hw9) (dec D_Box_queue rfl) rfl fpP (Nat.le_of_ble_eq_true rfl) (by decide) ⟨by decide, by decide⟩ (fun v w2 hp => ?_) (fun _ _ h => by cases h.1)
  obtain ⟨hv, rfl⟩ := hp
  cases hv
  refine aw_aload_n (i := 0) C (dec D_Box_queue rfl) rfl rfl ?_
  refine gf_Box_48 C (dec D_Box_queue rfl) ?_
  refine aw_cv C ci_Box_219 [] (c_AL_size _ _ _ _ _ _ 0 (by decide)) (dec D_Box_queue rfl) (rcA (j := 0) (by decide)) rfl fpP (Nat.le_of_ble_eq_true rfl) (by decide) ⟨by decide, by decide⟩ (fun v w2 hp => ?_) (fun _ _ h => by cases h.1)
  obtain ⟨hv, rfl⟩ := hp
  cases hv
  rw [hs]
  refine aw_bipush (v := 16) C (dec D_Box_queue rfl) (by decide) ?_
  refine aw_icmp_ne (tgt := 37) C (dec D_Box_queue rfl) (by decide) (fun _ => ?_) (fun h => absurd ((nI_eq (a := s) (b := 16) (by omega) (by omega)).mp h) (by omega))
  refine aw_aload_n (i := 0) C (dec D_Box_queue rfl) rfl rfl ?_
  refine gf_Box_48 C (dec D_Box_queue rfl) ?_
  refine aw_new C 19 (cN c 19 0) [.int 0, .int 0, .long 0, .int 0, .long 0] cl_Req (List.mem_of_getElem? (i := 687) (by decide +kernel)) (List.mem_of_getElem? (i := 688) (by decide +kernel)) (List.mem_of_getElem? (i := 60) (by decide +kernel)) (by decide) (dec D_Box_queue rfl) ⟨by decide, by decide⟩ (fun q0 => ?_)
  refine aw_dup C (dec D_Box_queue rfl) rfl ?_
  refine aw_iload_n (i := 1) C (dec D_Box_queue rfl) rfl rfl ?_
  refine aw_iload_n (i := 2) C (dec D_Box_queue rfl) rfl rfl ?_
  refine aw_lload_n (i := 3) C (dec D_Box_queue rfl) rfl rfl ?_
  refine aw_ci C ci_Box_224 [_, _, _] (c_Req_init _ _ _ 19 (cN c 19 0) q0 x y v hy) (dec D_Box_queue rfl) rfl (fpW Fw) (Nat.le_of_ble_eq_true rfl) (by decide) ⟨by decide, by decide⟩ (fun v w2 hp => ?_) (fun _ _ h => by cases h.1)
  obtain ⟨hv, rfl⟩ := hp
  cases hv
  rw [w_newQ hel]
  refine AW.eq rfl rfl (st' := [.ref ((up2 a 19 (cN c 19 0) q0) 19 (cN c 19 0)), .ref ((up2 a 19 (cN c 19 0) q0) 13 0)]) (by simp [up2]) ?_
  refine aw_cv C ci_Box_227 [_] (c_AL_add_11 _ _ (up2 a 19 (cN c 19 0) q0) (newQ c x y v) _ _ 0 (cN c 19 0) (by decide) hn hN (fun j _ z hz => Nat.lt_succ_of_lt (hel 0 j z hz)) (hcs ▸ hs) (Nat.lt_succ_self _)) (dec D_Box_queue rfl) (rcA (a := (up2 a 19 (cN c 19 0) q0)) (j := 0) (by decide)) rfl (fpW Fw) (Nat.le_of_ble_eq_true rfl) (by decide) ⟨by decide, by decide⟩ (fun v w2 hp => ?_) (fun _ _ h => by obtain ⟨_, h, _⟩ := h; cases h)
  obtain ⟨q1, hv, rfl⟩ := hp
  cases hv
  refine aw_pop C (dec D_Box_queue rfl) rfl ?_
  refine aw_aload_n (i := 0) C (dec D_Box_queue rfl) rfl rfl ?_
  change AW E _ _ _ _ _ _ [.ref ((up2 (up2 a 19 (cN c 19 0) q0) 14 0 q1) 0 0)]
  refine gf_Box_48 C (dec D_Box_queue rfl) ?_
  refine aw_cv C ci_Box_219 [] (c_AL_size _ _ (up2 (up2 a 19 (cN c 19 0) q0) 14 0 q1) _ _ _ 0 (by decide)) (dec D_Box_queue rfl) (rcA (a := (up2 (up2 a 19 (cN c 19 0) q0) 14 0 q1)) (j := 0) (by decide)) rfl fpP (Nat.le_of_ble_eq_true rfl) (by decide) ⟨by decide, by decide⟩ (fun v w2 hp => ?_) (fun _ _ h => by cases h.1)
  obtain ⟨hv, rfl⟩ := hp
  cases hv
  refine aw_iconst (v := 1) C (dec D_Box_queue rfl) (by decide) ?_
  refine aw_isub C (dec D_Box_queue rfl) ?_
  change AW E _ _ _ _ _ _ [.int (nI (cN c 14 0 + 1) - 1)]
  rw [show (1 : Int32) = nI 1 from rfl, pk_sub (by omega), Nat.add_sub_cancel]
  refine aw_ret_i C r (dec D_Box_queue rfl) rfl (by decide) (by decide) ?_
  exact ⟨q0, q1, by rw [hcs], rfl⟩
theorem c_Box_queue0 (l : Launch) (G : GG) (a : AD) (c : CC) (m : MM) (o : OO) (x y : Int32) (v : Int64) (s : Nat) (hm : ¬ cMtd c = 0) (hw9 : ¬ wth x 0 100 = 0) (hy : y = 0 ∨ y = 1) (hel : ∀ i j z, cR c 14 i j = some z → z < cN c 19 0) (hsz : s < 16) (hs : cI c 8 0 = nI s) (hn : cN c 14 0 = 0) (hcs : s = 0) : CT l G y_Box_queue (.code y_Box_queue b_Box_queue 5 (some .int)) 8 2 105 (Fyes G) (wld G a c m o) [.ref (a 0 0), .int x, .int y, .long v] (fun r w2 => ∃ q0 q1, r = .inl (some (.int (nI s))) ∧ w2 = wld G (up2 (up2 a 19 (cN c 19 0) q0) 14 0 q1) (sI (sR (gro (sI (newQ c x y v) 7 0 (cI (newQ c x y v) 7 0 + 1)) 0 10 (fun _ => none)) 14 0 (rup (cR (gro (sI (newQ c x y v) 7 0 (cI (newQ c x y v) 7 0 + 1)) 0 10 (fun _ => none)) 14 0) (0) (some (cN c 19 0)))) 8 0 (nI ((0) + 1))) m o) := by
  refine CT.of (by decide) (Nat.le_of_ble_eq_true rfl) rfl ?_
  intro E hl hG hF C r hw hex hnm
  subst hl; subst hG
  have Fw : Cw E := fun a h => by rw [hF]; exact h
  refine aw_aload_n (i := 0) C (dec D_Box_queue rfl) rfl rfl ?_
  refine aw_cv C ci_Box_62 [] (c_Box_isMounted _ _ _ _ _ _) (dec D_Box_queue rfl) rcB rfl fpP (Nat.le_of_ble_eq_true rfl) (by decide) ⟨by decide, by decide⟩ (fun v w2 hp => ?_) (fun _ _ h => by cases h.1)
  obtain ⟨hv, rfl⟩ := hp
  cases hv
  refine aw_cs C ci_Box_66 [_] (c_Box_want1 _ _ _ _ _ _ _ hm) (dec D_Box_queue rfl) rfl fpP (Nat.le_of_ble_eq_true rfl) (by decide) ⟨by decide, by decide⟩ (fun v w2 hp => ?_) (fun _ _ h => by cases h.1)
  obtain ⟨hv, rfl⟩ := hp
  cases hv
  refine aw_iload_n (i := 1) C (dec D_Box_queue rfl) rfl rfl ?_
  refine aw_iconst (v := 0) C (dec D_Box_queue rfl) (by decide) ?_
  refine aw_bipush (v := 100) C (dec D_Box_queue rfl) (by decide) ?_
  refine aw_cs C ci_Box_70 [_, _, _] (c_Box_within _ _ _ _ _ _ _ _ _) (dec D_Box_queue rfl) rfl fpP (Nat.le_of_ble_eq_true rfl) (by decide) ⟨by decide, by decide⟩ (fun v w2 hp => ?_) (fun _ _ h => by cases h.1)
  obtain ⟨hv, rfl⟩ := hp
  cases hv
  refine aw_cs C ci_Box_78 [_] (c_Box_argue1 _ _ _ _ _ _ _ hw9) (dec D_Box_queue rfl) rfl fpP (Nat.le_of_ble_eq_true rfl) (by decide) ⟨by decide, by decide⟩ (fun v w2 hp => ?_) (fun _ _ h => by cases h.1)
  obtain ⟨hv, rfl⟩ := hp
  cases hv
  refine aw_aload_n (i := 0) C (dec D_Box_queue rfl) rfl rfl ?_
  refine gf_Box_48 C (dec D_Box_queue rfl) ?_
  refine aw_cv C ci_Box_219 [] (c_AL_size _ _ _ _ _ _ 0 (by decide)) (dec D_Box_queue rfl) (rcA (j := 0) (by decide)) rfl fpP (Nat.le_of_ble_eq_true rfl) (by decide) ⟨by decide, by decide⟩ (fun v w2 hp => ?_) (fun _ _ h => by cases h.1)
  obtain ⟨hv, rfl⟩ := hp
  cases hv
  rw [hs]
  refine aw_bipush (v := 16) C (dec D_Box_queue rfl) (by decide) ?_
  refine aw_icmp_ne (tgt := 37) C (dec D_Box_queue rfl) (by decide) (fun _ => ?_) (fun h => absurd ((nI_eq (a := s) (b := 16) (by omega) (by omega)).mp h) (by omega))
  refine aw_aload_n (i := 0) C (dec D_Box_queue rfl) rfl rfl ?_
  refine gf_Box_48 C (dec D_Box_queue rfl) ?_
  refine aw_new C 19 (cN c 19 0) [.int 0, .int 0, .long 0, .int 0, .long 0] cl_Req (List.mem_of_getElem? (i := 687) (by decide +kernel)) (List.mem_of_getElem? (i := 688) (by decide +kernel)) (List.mem_of_getElem? (i := 60) (by decide +kernel)) (by decide) (dec D_Box_queue rfl) ⟨by decide, by decide⟩ (fun q0 => ?_)
  refine aw_dup C (dec D_Box_queue rfl) rfl ?_
  refine aw_iload_n (i := 1) C (dec D_Box_queue rfl) rfl rfl ?_
  refine aw_iload_n (i := 2) C (dec D_Box_queue rfl) rfl rfl ?_
  refine aw_lload_n (i := 3) C (dec D_Box_queue rfl) rfl rfl ?_
  refine aw_ci C ci_Box_224 [_, _, _] (c_Req_init _ _ _ 19 (cN c 19 0) q0 x y v hy) (dec D_Box_queue rfl) rfl (fpW Fw) (Nat.le_of_ble_eq_true rfl) (by decide) ⟨by decide, by decide⟩ (fun v w2 hp => ?_) (fun _ _ h => by cases h.1)
  obtain ⟨hv, rfl⟩ := hp
  cases hv
  rw [w_newQ hel]
  refine AW.eq rfl rfl (st' := [.ref ((up2 a 19 (cN c 19 0) q0) 19 (cN c 19 0)), .ref ((up2 a 19 (cN c 19 0) q0) 13 0)]) (by simp [up2]) ?_
  refine aw_cv C ci_Box_227 [_] (c_AL_add_10 _ _ (up2 a 19 (cN c 19 0) q0) (newQ c x y v) _ _ 0 (cN c 19 0) (by decide) hn (hcs ▸ hs) (Nat.lt_succ_self _)) (dec D_Box_queue rfl) (rcA (a := (up2 a 19 (cN c 19 0) q0)) (j := 0) (by decide)) rfl (fpW Fw) (Nat.le_of_ble_eq_true rfl) (by decide) ⟨by decide, by decide⟩ (fun v w2 hp => ?_) (fun _ _ h => by obtain ⟨_, h, _⟩ := h; cases h)
  obtain ⟨q1, hv, rfl⟩ := hp
  cases hv
  refine aw_pop C (dec D_Box_queue rfl) rfl ?_
  refine aw_aload_n (i := 0) C (dec D_Box_queue rfl) rfl rfl ?_
  change AW E _ _ _ _ _ _ [.ref ((up2 (up2 a 19 (cN c 19 0) q0) 14 0 q1) 0 0)]
  refine gf_Box_48 C (dec D_Box_queue rfl) ?_
  refine aw_cv C ci_Box_219 [] (c_AL_size _ _ (up2 (up2 a 19 (cN c 19 0) q0) 14 0 q1) _ _ _ 0 (by decide)) (dec D_Box_queue rfl) (rcA (a := (up2 (up2 a 19 (cN c 19 0) q0) 14 0 q1)) (j := 0) (by decide)) rfl fpP (Nat.le_of_ble_eq_true rfl) (by decide) ⟨by decide, by decide⟩ (fun v w2 hp => ?_) (fun _ _ h => by cases h.1)
  obtain ⟨hv, rfl⟩ := hp
  cases hv
  refine aw_iconst (v := 1) C (dec D_Box_queue rfl) (by decide) ?_
  refine aw_isub C (dec D_Box_queue rfl) ?_
  change AW E _ _ _ _ _ _ [.int (nI (0 + 1) - 1)]
  rw [show (1 : Int32) = nI 1 from rfl, pk_sub (by omega), Nat.add_sub_cancel]
  refine aw_ret_i C r (dec D_Box_queue rfl) rfl (by decide) (by decide) ?_
  exact ⟨q0, q1, by rw [hcs], rfl⟩
