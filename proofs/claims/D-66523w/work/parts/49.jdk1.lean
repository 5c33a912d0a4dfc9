/-! the JDK: lists: size, get, clear; printed by tools/m49.py -/
theorem wR_14 {G : GG} {a : AD} {c : CC} {m : MM} {o : OO} {i : Nat} (f : Nat → Option Nat) (g : Nat → Option Nat) (hg : ∀ j, f j = (g j).map (a 19)) (hi : i < 2) (hN : ¬ cN c 14 i = 0) : upW (wld G a c m o) 14 i (a 14 i, .inl (gA G 6, cN c 14 i, .inr (.inr (.inr (.inr f))))) = wld G a (sR c 14 i g) m o := by
  have hf : f = fun j => (g j).map (a 19) := funext hg
  subst hf
  refine wld_C (by decide) hi (fun k => rfl) ?_ ?_
  · simp [celC, sR, cR, up2, elA, cN] <;> first | exact hN | rfl
  · intro k' i' hne
    unfold celC
    split <;> first | rfl | (have h9 : ¬ i' = i := fun e => hne ⟨rfl, e⟩; simp [sR, cR, up2, elA, cN, h9] <;> rfl)
theorem el_ne {G : GG} {a : AD} {c : CC} {i : Nat} (h : ¬ cN c 14 i = 0) : elA G a c i = a 14 i := if_neg h
section EL
variable {E : EE} {cc : ByteArray} {nL : Nat} {R : Room} {b : Bool} {cells slots : Nat} {a : AD} {c : CC} {m : MM} {o : OO} {pc : Nat} {lv : List (Nat × Value)} {st : List Value}
theorem al_C14 {own : String} (C : Cx E cc own nL R) {i : Nat} (hi : i < 2) {x : Int32} (t : Nat) (d : decode cc pc = .ok (.aaload, 1)) (hx : Ix x t (cN c 14 i)) (kk : AW E b cells slots (wld (eG E) a c m o) (pc + 1) lv (va_rf ((cR c 14 i t).map (a 19)) :: st)) : AW E b cells slots (wld (eG E) a c m o) pc lv (.int x :: .ref (a 14 i) :: st) :=
  aw_aald (k0 := 14) (i0 := i) C 6 rfl d (cC_at (by decide) hi (by have h : ¬ cN c 14 i = 0 := by have := hx.2.1; omega
                                                                   simp [celC, h]; rfl)) hx kk
theorem as_C14N {own : String} (C : Cx E cc own nL R) (Fw : Cw E) {i : Nat} (hi : i < 2) {x : Int32} (t : Nat) (d : decode cc pc = .ok (.aastore, 1)) (hx : Ix x t (cN c 14 i)) (kk : AW E false cells slots (wld (eG E) a (sR c 14 i (rup (cR c 14 i) t none)) m o) (pc + 1) lv st) : AW E b cells slots (wld (eG E) a c m o) pc lv (.null :: .int x :: .ref (a 14 i) :: st) :=
  have h : ¬ cN c 14 i = 0 := by have := hx.2.1; omega
  aw_aastN (k0 := 14) (i0 := i) C Fw 6 rfl d (cC_at (by decide) hi (by simp [celC, h]; rfl)) hx (AW.wd (wR_14 _ _ (fun j => by unfold va_up rup; split <;> rfl) hi h) kk)
theorem as_C14 {own : String} (C : Cx E cc own nL R) (Fw : Cw E) {i : Nat} (hi : i < 2) {x : Int32} {j : Nat} (hj : Rcv (wld (eG E) a c m o) (a 19 j) "BubbleBox$Request") (t : Nat) (hca : Cond.castable "BubbleBox$Request" "java/lang/Object" ∈ lw_tbl) (d : decode cc pc = .ok (.aastore, 1)) (hx : Ix x t (cN c 14 i)) (kk : AW E false cells slots (wld (eG E) a (sR c 14 i (rup (cR c 14 i) t (some j))) m o) (pc + 1) lv st) : AW E b cells slots (wld (eG E) a c m o) pc lv (.ref (a 19 j) :: .int x :: .ref (a 14 i) :: st) :=
  have h : ¬ cN c 14 i = 0 := by have := hx.2.1; omega
  aw_aast (k0 := 14) (i0 := i) C Fw 6 rfl d (cC_at (by decide) hi (by simp [celC, h]; rfl)) hj (.inr hca) hx (AW.wd (wR_14 _ _ (fun j => by unfold va_up rup; split <;> rfl) hi h) kk)
end EL
theorem rcQ {G : GG} {a : AD} {c : CC} {m : MM} {o : OO} {j : Nat} (hj : j < cN c 19 0) : Rcv (wld G a c m o) (a 19 j) "BubbleBox$Request" := ⟨19, j, 9, _, _, cC_at (by decide) hj rfl, rfl, rfl⟩
def cLClr (c : CC) (i : Nat) : Nat → CC
  | 0 => c
  | t + 1 => sR (cLClr c i t) 14 i (rup (cR (cLClr c i t) 14 i) t none)
theorem cLClr_o (c : CC) (i t : Nat) : cN (cLClr c i t) = cN c ∧ cI (cLClr c i t) = cI c := by
  induction t with
  | zero => exact ⟨rfl, rfl⟩
  | succ t ih => exact ih
theorem c_AL_size (l : Launch) (G : GG) (a : AD) (c : CC) (m : MM) (o : OO) (i : Nat) (hi : i < 2) : CT l G y_AL_size (.code y_AL_size b_AL_size 1 (some .int)) 0 0 0 Fno (wld G a c m o) [.ref (a 13 i)] (fun r w2 => r = .inl (some (.int (cI c 8 i))) ∧ w2 = wld G a c m o) := by
  refine CT.ofF (by decide +kernel) (Nat.le_of_ble_eq_true rfl) rfl ?_
  intro E hl hG hF C r hw hex hnm
  subst hl; subst hG
  refine aw_aload_n (i := 0) C (dec D_AL_size rfl) rfl rfl ?_
  refine gf_AL_48 C hi (dec D_AL_size rfl) ?_
  refine aw_ret_i C r (dec D_AL_size rfl) rfl (by decide) (by decide) ?_
  refine ⟨?_, ?_⟩ <;> first | with_reducible rfl | (simp [mI_I, mL_I, mA_I, mJ_I, mI_L, mL_L, mA_L, mJ_L, mI_A, mL_A, mA_A, mJ_A, mI_J, mL_J, mA_J, mJ_J, cI_I, cL_I, cA_I, cJ_I, cR_I, cN_I, cI_L, cL_L, cA_L, cJ_L, cR_L, cN_L, cI_A, cL_A, cA_A, cJ_A, cR_A, cN_A, cI_J, cL_J, cA_J, cJ_J, cR_J, cN_J, cI_R, cL_R, cA_R, cJ_R, cR_R, cN_R, cI_N, cL_N, cA_N, cJ_N, cR_N, cN_N, ↓reduceIte, Nat.reduceEqDiff, upd_at, updL_at]; done) | (simp [mI_I, mL_I, mA_I, mJ_I, mI_L, mL_L, mA_L, mJ_L, mI_A, mL_A, mA_A, mJ_A, mI_J, mL_J, mA_J, mJ_J, cI_I, cL_I, cA_I, cJ_I, cR_I, cN_I, cI_L, cL_L, cA_L, cJ_L, cR_L, cN_L, cI_A, cL_A, cA_A, cJ_A, cR_A, cN_A, cI_J, cL_J, cA_J, cJ_J, cR_J, cN_J, cI_R, cL_R, cA_R, cJ_R, cR_R, cN_R, cI_N, cL_N, cA_N, cJ_N, cR_N, cN_N, ↓reduceIte, Nat.reduceEqDiff, upd_at, updL_at]; rfl)
theorem c_Pre_checkIndex (l : Launch) (G : GG) (a : AD) (c : CC) (m : MM) (o : OO) (x y : Int32) (h1 : ¬ x < 0) (h2 : x < y) : CT l G y_Pre_checkIndex (.code y_Pre_checkIndex b_Pre_checkIndex 3 (some .int)) 0 0 0 Fno (wld G a c m o) [.int x, .int y, .null] (fun r w2 => r = .inl (some (.int x)) ∧ w2 = wld G a c m o) := by
  refine CT.ofF (by decide +kernel) (Nat.le_of_ble_eq_true rfl) rfl ?_
  intro E hl hG hF C r hw hex hnm
  subst hl; subst hG
  refine aw_iload_n (i := 0) C (dec D_Pre_checkIndex rfl) rfl rfl ?_
  refine aw_if_lt (tgt := 9) C (dec D_Pre_checkIndex rfl) (by decide) (fun h1b => ?_) (fun h1b => ?_)
  · try simp only [mI_I, mL_I, mA_I, mJ_I, mI_L, mL_L, mA_L, mJ_L, mI_A, mL_A, mA_A, mJ_A, mI_J, mL_J, mA_J, mJ_J, cI_I, cL_I, cA_I, cJ_I, cR_I, cN_I, cI_L, cL_L, cA_L, cJ_L, cR_L, cN_L, cI_A, cL_A, cA_A, cJ_A, cR_A, cN_A, cI_J, cL_J, cA_J, cJ_J, cR_J, cN_J, cI_R, cL_R, cA_R, cJ_R, cR_R, cN_R, cI_N, cL_N, cA_N, cJ_N, cR_N, cN_N, ↓reduceIte, Nat.reduceEqDiff, upd_at, updL_at] at h1b
    exact absurd h1b h1
  · try simp only [mI_I, mL_I, mA_I, mJ_I, mI_L, mL_L, mA_L, mJ_L, mI_A, mL_A, mA_A, mJ_A, mI_J, mL_J, mA_J, mJ_J, cI_I, cL_I, cA_I, cJ_I, cR_I, cN_I, cI_L, cL_L, cA_L, cJ_L, cR_L, cN_L, cI_A, cL_A, cA_A, cJ_A, cR_A, cN_A, cI_J, cL_J, cA_J, cJ_J, cR_J, cN_J, cI_R, cL_R, cA_R, cJ_R, cR_R, cN_R, cI_N, cL_N, cA_N, cJ_N, cR_N, cN_N, ↓reduceIte, Nat.reduceEqDiff, upd_at, updL_at] at h1b
    refine aw_iload_n (i := 0) C (dec D_Pre_checkIndex rfl) rfl rfl ?_
    refine aw_iload_n (i := 1) C (dec D_Pre_checkIndex rfl) rfl rfl ?_
    refine aw_icmp_lt (tgt := 16) C (dec D_Pre_checkIndex rfl) (by decide) (fun h6 => ?_) (fun h6 => ?_)
    · try simp only [mI_I, mL_I, mA_I, mJ_I, mI_L, mL_L, mA_L, mJ_L, mI_A, mL_A, mA_A, mJ_A, mI_J, mL_J, mA_J, mJ_J, cI_I, cL_I, cA_I, cJ_I, cR_I, cN_I, cI_L, cL_L, cA_L, cJ_L, cR_L, cN_L, cI_A, cL_A, cA_A, cJ_A, cR_A, cN_A, cI_J, cL_J, cA_J, cJ_J, cR_J, cN_J, cI_R, cL_R, cA_R, cJ_R, cR_R, cN_R, cI_N, cL_N, cA_N, cJ_N, cR_N, cN_N, ↓reduceIte, Nat.reduceEqDiff, upd_at, updL_at] at h6
      refine aw_iload_n (i := 0) C (dec D_Pre_checkIndex rfl) rfl rfl ?_
      refine aw_ret_i C r (dec D_Pre_checkIndex rfl) rfl (by decide) (by decide) ?_
      exact ⟨rfl, rfl⟩
    · try simp only [mI_I, mL_I, mA_I, mJ_I, mI_L, mL_L, mA_L, mJ_L, mI_A, mL_A, mA_A, mJ_A, mI_J, mL_J, mA_J, mJ_J, cI_I, cL_I, cA_I, cJ_I, cR_I, cN_I, cI_L, cL_L, cA_L, cJ_L, cR_L, cN_L, cI_A, cL_A, cA_A, cJ_A, cR_A, cN_A, cI_J, cL_J, cA_J, cJ_J, cR_J, cN_J, cI_R, cL_R, cA_R, cJ_R, cR_R, cN_R, cI_N, cL_N, cA_N, cJ_N, cR_N, cN_N, ↓reduceIte, Nat.reduceEqDiff, upd_at, updL_at] at h6
      exact absurd h2 h6
theorem c_Objects_checkIndex (l : Launch) (G : GG) (a : AD) (c : CC) (m : MM) (o : OO) (x y : Int32) (h1 : ¬ x < 0) (h2 : x < y) : CT l G y_Objects_checkIndex (.code y_Objects_checkIndex b_Objects_checkIndex 2 (some .int)) 1 0 0 Fno (wld G a c m o) [.int x, .int y] (fun r w2 => r = .inl (some (.int x)) ∧ w2 = wld G a c m o) := by
  refine CT.ofF (by decide +kernel) (Nat.le_of_ble_eq_true rfl) rfl ?_
  intro E hl hG hF C r hw hex hnm
  subst hl; subst hG
  refine aw_iload_n (i := 0) C (dec D_Objects_checkIndex rfl) rfl rfl ?_
  refine aw_iload_n (i := 1) C (dec D_Objects_checkIndex rfl) rfl rfl ?_
  refine aw_null C (dec D_Objects_checkIndex rfl) ?_
  refine aw_cs C ci_Objects_105 [_, _, _] (c_Pre_checkIndex _ _ _ _ _ _ _ _ h1 h2) (dec D_Objects_checkIndex rfl) rfl fpP (Nat.le_of_ble_eq_true rfl) (by decide) ⟨by decide, by decide⟩ (fun v w2 hp => ?_) (fun _ _ h => by cases h.1)
  obtain ⟨hv, rfl⟩ := hp
  cases hv
  refine aw_ret_i C r (dec D_Objects_checkIndex rfl) rfl (by decide) (by decide) ?_
  exact ⟨rfl, rfl⟩
theorem c_AL_elementData (l : Launch) (G : GG) (a : AD) (c : CC) (m : MM) (o : OO) (i t : Nat) (hi : i < 2) (ht : t < cN c 14 i) (hc : cN c 14 i ≤ 100) : CT l G y_AL_elementData (.code y_AL_elementData b_AL_elementData 2 (some (.object "java/lang/Object"))) 0 0 0 Fno (wld G a c m o) [.ref (a 13 i), .int (nI t)] (fun r w2 => r = .inl (some (va_rf ((cR c 14 i t).map (a 19)))) ∧ w2 = wld G a c m o) := by
  refine CT.ofF (by decide +kernel) (Nat.le_of_ble_eq_true rfl) rfl ?_
  intro E hl hG hF C r hw hex hnm
  subst hl; subst hG
  refine aw_aload_n (i := 0) C (dec D_AL_elementData rfl) rfl rfl ?_
  refine gf_AL_9 C hi (dec D_AL_elementData rfl) ?_
  rw [el_ne (by omega)]
  refine aw_iload_n (i := 1) C (dec D_AL_elementData rfl) rfl rfl ?_
  refine al_C14 C hi t (dec D_AL_elementData rfl) (ix_of ht) ?_
  refine aw_ret_a C r (.inl ⟨_, rfl⟩) (by cases cR c 14 i t with | none => exact .inl rfl | some j => exact .inr ⟨_, rfl⟩) (dec D_AL_elementData rfl) (by decide) (by decide) ⟨rfl, rfl⟩
theorem c_AL_get (l : Launch) (G : GG) (a : AD) (c : CC) (m : MM) (o : OO) (i t q : Nat) (hi : i < 2) (hq : cI c 8 i = nI q ∧ t < q) (ht : q ≤ cN c 14 i) (hc : cN c 14 i ≤ 100) : CT l G y_AL_get (.code y_AL_get b_AL_get 2 (some (.object "java/lang/Object"))) 2 0 0 Fno (wld G a c m o) [.ref (a 13 i), .int (nI t)] (fun r w2 => r = .inl (some (va_rf ((cR c 14 i t).map (a 19)))) ∧ w2 = wld G a c m o) := by
  refine CT.ofF (by decide +kernel) (Nat.le_of_ble_eq_true rfl) rfl ?_
  intro E hl hG hF C r hw hex hnm
  subst hl; subst hG
  refine aw_iload_n (i := 1) C (dec D_AL_get rfl) rfl rfl ?_
  refine aw_aload_n (i := 0) C (dec D_AL_get rfl) rfl rfl ?_
  refine gf_AL_48 C hi (dec D_AL_get rfl) ?_
  rw [hq.1]
  refine aw_cs C ci_AL_118 [_, _] (c_Objects_checkIndex _ _ _ _ _ _ _ _ (nI_pos (by omega)) (nI_lt hq.2 (by omega))) (dec D_AL_get rfl) rfl fpP (Nat.le_of_ble_eq_true rfl) (by decide) ⟨by decide, by decide⟩ (fun v w2 hp => ?_) (fun _ _ h => by cases h.1)
  obtain ⟨hv, rfl⟩ := hp
  cases hv
  refine aw_pop C (dec D_AL_get rfl) rfl ?_
  refine aw_aload_n (i := 0) C (dec D_AL_get rfl) rfl rfl ?_
  refine aw_iload_n (i := 1) C (dec D_AL_get rfl) rfl rfl ?_
  refine aw_cv C ci_AL_123 [_] (c_AL_elementData _ _ _ _ _ _ i t hi (by omega) hc) (dec D_AL_get rfl) (rcA hi) rfl fpP (Nat.le_of_ble_eq_true rfl) (by decide) ⟨by decide, by decide⟩ (fun v w2 hp => ?_) (fun _ _ h => by cases h.1)
  obtain ⟨hv, rfl⟩ := hp
  cases hv
  refine aw_ret_a C r (.inl ⟨_, rfl⟩) (by cases cR c 14 i t with | none => exact .inl rfl | some j => exact .inr ⟨_, rfl⟩) (dec D_AL_get rfl) (by decide) (by decide) ⟨rfl, rfl⟩
theorem c_AL_clear (l : Launch) (G : GG) (a : AD) (c : CC) (m : MM) (o : OO) (i q : Nat) (hi : i < 2) (hq : cI c 8 i = nI q) (ht : q ≤ cN c 14 i) (hc : cN c 14 i ≤ 100) : CT l G y_AL_clear (.code y_AL_clear b_AL_clear 4 none) 0 0 0 (Fyes G) (wld G a c m o) [.ref (a 13 i)] (fun r w2 => r = .inl none ∧ w2 = wld G a (cLClr (sI (sI c 7 i (cI c 7 i + 1)) 8 i 0) i q) m o) := by
  refine CT.ofF (by decide +kernel) (Nat.le_of_ble_eq_true rfl) rfl ?_
  intro E hl hG hF C r hw hex hnm
  subst hl; subst hG
  have Fw : Cw E := fun a h => by rw [hF]; exact h
  have hq9 : q < 101 := by omega
  have lp : ∀ (n t : Nat) , q - t < n → t ≤ q → AW E false 0 0 (wld (eG E) a (cLClr (sI (sI c 7 i (cI c 7 i + 1)) 8 i 0) i t) m o) 27 [(0, .ref (a 13 i)), (1, .ref (elA (eG E) a c i)), (2, .int (nI q)), (3, .int (nI t))] [] := by
    intro n
    induction n with
    | zero => intro t  h1 h2; omega
    | succ n ih =>
      intro t  h1t h2t
      refine aw_iload_n (i := 3) C (dec D_AL_clear rfl) rfl rfl ?_
      refine aw_iload_n (i := 2) C (dec D_AL_clear rfl) rfl rfl ?_
      refine aw_icmp_ge (tgt := 42) C (dec D_AL_clear rfl) (by decide) (fun hb => ?_) (fun hb => ?_)
      · try simp only [mI_I, mL_I, mA_I, mJ_I, mI_L, mL_L, mA_L, mJ_L, mI_A, mL_A, mA_A, mJ_A, mI_J, mL_J, mA_J, mJ_J, cI_I, cL_I, cA_I, cJ_I, cR_I, cN_I, cI_L, cL_L, cA_L, cJ_L, cR_L, cN_L, cI_A, cL_A, cA_A, cJ_A, cR_A, cN_A, cI_J, cL_J, cA_J, cJ_J, cR_J, cN_J, cI_R, cL_R, cA_R, cJ_R, cR_R, cN_R, cI_N, cL_N, cA_N, cJ_N, cR_N, cN_N, ↓reduceIte, Nat.reduceEqDiff, upd_at, updL_at] at hb
        have e9 : t = q := by have := ix_ge (N := q) hb; omega
        subst e9
        refine aw_ret_v C r (dec D_AL_clear rfl) (by decide) (by decide) ?_
        exact ⟨rfl, rfl⟩
      · try simp only [mI_I, mL_I, mA_I, mJ_I, mI_L, mL_L, mA_L, mJ_L, mI_A, mL_A, mA_A, mJ_A, mI_J, mL_J, mA_J, mJ_J, cI_I, cL_I, cA_I, cJ_I, cR_I, cN_I, cI_L, cL_L, cA_L, cJ_L, cR_L, cN_L, cI_A, cL_A, cA_A, cJ_A, cR_A, cN_A, cI_J, cL_J, cA_J, cJ_J, cR_J, cN_J, cI_R, cL_R, cA_R, cJ_R, cR_R, cN_R, cI_N, cL_N, cA_N, cJ_N, cR_N, cN_N, ↓reduceIte, Nat.reduceEqDiff, upd_at, updL_at] at hb
        have htt : t < q := ix_lt (N := q) hb
        have ho := cLClr_o (sI (sI c 7 i (cI c 7 i + 1)) 8 i 0) i t
        have hN : cN (cLClr (sI (sI c 7 i (cI c 7 i + 1)) 8 i 0) i t) 14 i = cN c 14 i := by rw [ho.1]; rfl
        refine aw_aload_n (i := 1) C (dec D_AL_clear rfl) rfl rfl ?_
        refine aw_iload_n (i := 3) C (dec D_AL_clear rfl) rfl rfl ?_
        refine aw_null C (dec D_AL_clear rfl) ?_
        rw [el_ne (by omega)]
        refine as_C14N C Fw hi t (dec D_AL_clear rfl) (ix_eq rfl (by rw [hN]; omega) (by rw [hN]; omega)) ?_
        refine aw_iinc C (dec D_AL_clear rfl) rfl (nI_inc t) (by decide) ?_
        refine aw_goto (tgt := 27) C (dec D_AL_clear rfl) (by decide) ?_
        have k9 := ih (t + 1) (by omega) (by omega)
        rw [el_ne (by omega)] at k9
        exact k9
  refine aw_aload_n (i := 0) C (dec D_AL_clear rfl) rfl rfl ?_
  refine aw_dup C (dec D_AL_clear rfl) rfl ?_
  refine gf_AL_63 C hi (dec D_AL_clear rfl) ?_
  refine aw_iconst (v := 1) C (dec D_AL_clear rfl) (by decide) ?_
  refine aw_iadd C (dec D_AL_clear rfl) ?_
  refine pf_AL_63 C Fw (by exact hi) (dec D_AL_clear rfl) ?_
  refine aw_aload_n (i := 0) C (dec D_AL_clear rfl) rfl rfl ?_
  refine gf_AL_9 C (by exact hi) (dec D_AL_clear rfl) ?_
  refine aw_astore_n (i := 1) C (dec D_AL_clear rfl) rfl (by decide) ?_
  refine aw_aload_n (i := 0) C (dec D_AL_clear rfl) rfl rfl ?_
  refine gf_AL_48 C (by exact hi) (dec D_AL_clear rfl) ?_
  rw [show cI (sI c 7 i (cI c 7 i + 1)) 8 i = nI q from hq]
  refine aw_istore_n (i := 2) C (dec D_AL_clear rfl) rfl (by decide) ?_
  refine aw_aload_n (i := 0) C (dec D_AL_clear rfl) rfl rfl ?_
  refine aw_iconst (v := 0) C (dec D_AL_clear rfl) (by decide) ?_
  refine aw_dup_x1 C (dec D_AL_clear rfl) rfl rfl ?_
  refine pf_AL_48 C Fw (by exact hi) (dec D_AL_clear rfl) ?_
  refine aw_istore_n (i := 3) C (dec D_AL_clear rfl) rfl (by decide) ?_
  refine AW.ls [(0, .ref (a 13 i)), (1, .ref (elA (eG E) a c i)), (2, .int (nI q)), (3, .int (nI 0))] rfl ?_
  exact lp (q + 1) 0 (by omega) (by omega)
