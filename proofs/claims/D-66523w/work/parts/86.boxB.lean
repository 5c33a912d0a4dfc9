/-! the box: forget; printed by tools/m86.py -/
def cForg1 (c : CC) (q : Nat) : CC := cLClr (sI (sI (cClr (sI c 0 0 0)) 7 0 (cI (cClr (sI c 0 0 0)) 7 0 + 1)) 8 0 0) 0 q
def cForg (c : CC) (q qa : Nat) : CC := cLClr (sI (sI (cForg1 c q) 7 1 (cI (cForg1 c q) 7 1 + 1)) 8 1 0) 1 qa
theorem cClr_o (c : CC) : cI (cClr c) = cI c ∧ cL (cClr c) = cL c ∧ cJ (cClr c) = cJ c ∧ cN (cClr c) = cN c ∧ (∀ k, k ≠ 6 → cR (cClr c) k = cR c k) ∧ (∀ k, k ≠ 7 → k ≠ 8 → k ≠ 9 → cA (cClr c) k = cA c k) ∧ (∀ t, t < 8 → cR (cClr c) 6 0 t = none) ∧ ∀ k t, 7 ≤ k → k ≤ 9 → t < 101 → cA (cClr c) k 0 t = 0 := by
  have h1 : ∀ t, cI (cClrF c t) = cI c ∧ cL (cClrF c t) = cL c ∧ cJ (cClrF c t) = cJ c ∧ cN (cClrF c t) = cN c ∧ cA (cClrF c t) = cA c ∧ (∀ k, k ≠ 6 → cR (cClrF c t) k = cR c k) ∧ ∀ s, s < t → cR (cClrF c t) 6 0 s = none := by
    intro t
    induction t with
    | zero => exact ⟨rfl, rfl, rfl, rfl, rfl, fun _ _ => rfl, fun s h => absurd h (Nat.not_lt_zero _)⟩
    | succ t ih =>
      refine ⟨ih.1, ih.2.1, ih.2.2.1, ih.2.2.2.1, ih.2.2.2.2.1, fun k hk => ?_, fun s hs => ?_⟩
      · rw [← ih.2.2.2.2.2.1 k hk]; funext i; rw [cClrF, cR_R, if_neg hk]
      · rw [cClrF, cR_R, if_pos rfl, if_pos rfl, rup_at]
        split
        · rfl
        · exact ih.2.2.2.2.2.2 s (by omega)
  have h2 : ∀ (c : CC) (t : Nat), cI (cClrP c t) = cI c ∧ cL (cClrP c t) = cL c ∧ cJ (cClrP c t) = cJ c ∧ cN (cClrP c t) = cN c ∧ cR (cClrP c t) = cR c ∧ (∀ k, k ≠ 7 → k ≠ 8 → k ≠ 9 → cA (cClrP c t) k = cA c k) ∧ ∀ k s, 7 ≤ k → k ≤ 9 → s < t → cA (cClrP c t) k 0 s = 0 := by
    intro c t
    induction t with
    | zero => exact ⟨rfl, rfl, rfl, rfl, rfl, fun _ _ _ _ => rfl, fun _ s _ _ h => absurd h (Nat.not_lt_zero _)⟩
    | succ t ih =>
      refine ⟨ih.1, ih.2.1, ih.2.2.1, ih.2.2.2.1, ih.2.2.2.2.1, fun k h7 h8 h9 => ?_, fun k s hk hk2 hs => ?_⟩
      · rw [← ih.2.2.2.2.2.1 k h7 h8 h9]; funext i; rw [cClrP, cA_A, if_neg h9, cA_A, if_neg h8, cA_A, if_neg h7]
      · have z : ∀ s, s < t → cA (cClrP c t) k 0 s = 0 := fun s h => ih.2.2.2.2.2.2 k s hk hk2 h
        have : k = 7 ∨ k = 8 ∨ k = 9 := by omega
        rcases this with rfl | rfl | rfl
        · rw [cClrP, cA_A, if_neg (by decide), cA_A, if_neg (by decide), cA_A, if_pos rfl, if_pos rfl, upd_at]
          split
          · rfl
          · exact z s (by omega)
        · rw [cClrP, cA_A, if_neg (by decide), cA_A, if_pos rfl, if_pos rfl, upd_at]
          split
          · rfl
          · rw [cA_A, if_neg (by decide)]; exact z s (by omega)
        · rw [cClrP, cA_A, if_pos rfl, if_pos rfl, upd_at]
          split
          · rfl
          · rw [cA_A, if_neg (by decide), cA_A, if_neg (by decide)]; exact z s (by omega)
  have a := h1 8
  have b := h2 (cClrF c 8) 101
  unfold cClr
  generalize cClrF c 8 = c1 at a b ⊢
  generalize cClrP c1 101 = c2 at b ⊢
  exact ⟨b.1.trans a.1, b.2.1.trans a.2.1, b.2.2.1.trans a.2.2.1, b.2.2.2.1.trans a.2.2.2.1, fun k hk => by rw [b.2.2.2.2.1]; exact a.2.2.2.2.2.1 k hk, fun k h7 h8 h9 => (b.2.2.2.2.2.1 k h7 h8 h9).trans (by rw [a.2.2.2.2.1]), fun t ht => by rw [b.2.2.2.2.1]; exact a.2.2.2.2.2.2 t ht, fun k t hk hk2 ht => b.2.2.2.2.2.2 k t hk hk2 ht⟩
theorem cLClr_a (c : CC) (i t : Nat) : cN (cLClr c i t) = cN c ∧ cI (cLClr c i t) = cI c ∧ cL (cLClr c i t) = cL c ∧ cJ (cLClr c i t) = cJ c ∧ cA (cLClr c i t) = cA c ∧ (∀ k, k ≠ 14 → cR (cLClr c i t) k = cR c k) ∧ ∀ i' s z, cR (cLClr c i t) 14 i' s = some z → cR c 14 i' s = some z := by
  induction t with
  | zero => exact ⟨rfl, rfl, rfl, rfl, rfl, fun _ _ => rfl, fun _ _ _ h => h⟩
  | succ t ih =>
    refine ⟨ih.1, ih.2.1, ih.2.2.1, ih.2.2.2.1, ih.2.2.2.2.1, fun k hk => ?_, fun i' s z h => ?_⟩
    · rw [← ih.2.2.2.2.2.1 k hk]; funext i'; rw [cLClr, cR_R, if_neg hk]
    · refine ih.2.2.2.2.2.2 i' s z ?_
      rw [cLClr, cR_R, if_pos rfl] at h
      split at h
      · next e =>
        rw [rup_at] at h
        split at h
        · cases h
        · rw [e]; exact h
      · exact h
theorem c_Box_forget (l : Launch) (G : GG) (a : AD) (c : CC) (m : MM) (o : OO) (q qa : Nat) (hq : cI c 8 0 = nI q ∧ q ≤ cN c 14 0 ∧ cN c 14 0 ≤ 100) (hqa : cI c 8 1 = nI qa ∧ qa ≤ cN c 14 1 ∧ cN c 14 1 ≤ 100) : CT l G y_Box_forget (.code y_Box_forget b_Box_forget 1 none) 1 0 0 (Fyes G) (wld G a c m o) [.ref (a 0 0)] (fun r w2 => r = .inl none ∧ w2 = wld G a (cForg c q qa) m o) := by
  refine CT.of (by decide) (Nat.le_of_ble_eq_true rfl) rfl ?_
  intro E hl hG hF C r hw hex hnm
  subst hl; subst hG
  have Fw : Cw E := fun a h => by rw [hF]; exact h
  have ho := cClr_o (sI c 0 0 0)
  have h1 := cLClr_a (sI (sI (cClr (sI c 0 0 0)) 7 0 (cI (cClr (sI c 0 0 0)) 7 0 + 1)) 8 0 0) 0 q
  refine aw_aload_n (i := 0) C (dec D_Box_forget rfl) rfl rfl ?_
  refine aw_iconst (v := 0) C (dec D_Box_forget rfl) (by decide) ?_
  refine pf_Box_55 C Fw bz0 (dec D_Box_forget rfl) ?_
  refine aw_aload_n (i := 0) C (dec D_Box_forget rfl) rfl rfl ?_
  refine gf_Box_34 C (dec D_Box_forget rfl) ?_
  refine aw_cv C ci_Box_101 [] (c_Dir_clear _ _ _ _ _ _) (dec D_Box_forget rfl) rcD rfl (fpW Fw) (Nat.le_of_ble_eq_true rfl) (by decide) ⟨by decide, by decide⟩ (fun v w2 hp => ?_) (fun _ _ h => by cases h.1)
  obtain ⟨hv, rfl⟩ := hp
  cases hv
  refine aw_aload_n (i := 0) C (dec D_Box_forget rfl) rfl rfl ?_
  refine gf_Box_48 C (dec D_Box_forget rfl) ?_
  refine aw_cv C ci_Box_104 [] (c_AL_clear _ _ _ _ _ _ 0 q (by decide) (by rw [ho.1]; exact hq.1) (by rw [ho.2.2.2.1]; exact hq.2.1) (by rw [ho.2.2.2.1]; exact hq.2.2)) (dec D_Box_forget rfl) (rcA (j := 0) (by decide)) rfl (fpW Fw) (Nat.le_of_ble_eq_true rfl) (by decide) ⟨by decide, by decide⟩ (fun v w2 hp => ?_) (fun _ _ h => by cases h.1)
  obtain ⟨hv, rfl⟩ := hp
  cases hv
  refine aw_aload_n (i := 0) C (dec D_Box_forget rfl) rfl rfl ?_
  refine gf_Box_52 C (dec D_Box_forget rfl) ?_
  refine aw_cv C ci_Box_104 [] (c_AL_clear _ _ _ _ _ _ 1 qa (by decide) (by rw [h1.2.1, cI_I, if_pos rfl, if_neg (by decide), cI_I, if_neg (by decide), ho.1]; exact hqa.1) (by rw [h1.1, cN_I, cN_I, ho.2.2.2.1]; exact hqa.2.1) (by rw [h1.1, cN_I, cN_I, ho.2.2.2.1]; exact hqa.2.2)) (dec D_Box_forget rfl) (rcA (j := 1) (by decide)) rfl (fpW Fw) (Nat.le_of_ble_eq_true rfl) (by decide) ⟨by decide, by decide⟩ (fun v w2 hp => ?_) (fun _ _ h => by cases h.1)
  obtain ⟨hv, rfl⟩ := hp
  cases hv
  refine aw_ret_v C r (dec D_Box_forget rfl) (by decide) (by decide) ?_
  exact ⟨rfl, rfl⟩
