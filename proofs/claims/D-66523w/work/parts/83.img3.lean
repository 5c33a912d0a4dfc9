/-! images are packed and read; printed by tools/m83.py -/
/-- a directory's entries: names, first pages, lengths -/
def EntD (c : CC) (fo : Nat → Option Nat) (nm fs ln : Nat → Int32) : Prop := ∀ f, f < 8 → (fo f = none → nm f = 0 ∧ fs f = 0 ∧ ln f = 0) ∧ ∀ j, fo f = some j → nm f = cI c 10 j ∧ fs f = cI c 11 j ∧ ln f = cI c 12 j
def rdA (A : Nat → Int32) (d : Nat → Int64) (i : Nat) : Nat → Nat → Int32
  | 0 => A
  | t + 1 => pB (rdA A d i t) (8 * t) (d (20 * i + t)) 8
theorem rdA_at (A : Nat → Int32) (d : Nat → Int64) (i q : Nat) : ∀ t, rdA A d i t q = if q < 8 * t then mByte (d (20 * i + q / 8)) (q % 8) else A q
  | 0 => by rw [if_neg (by omega)]; rfl
  | t + 1 => by
    rw [rdA, pB_at, rdA_at A d i q t]
    by_cases e : 8 * t ≤ q ∧ q < 8 * t + 8
    · rw [if_pos e, if_pos (by omega), show q / 8 = t by omega, show q % 8 = q - 8 * t by omega]
    · rw [if_neg e]
      by_cases z : q < 8 * t
      · rw [if_pos z, if_pos (by omega)]
      · rw [if_neg z, if_neg (by omega)]
/-- an image and the chip may have changed -/
def TI (i : Nat) (c c' : CC) : Prop := (∀ k i', k ≠ 12 ∨ i' ≠ i → cA c' k i' = cA c k i') ∧ cR c' = cR c ∧ cN c' = cN c ∧ (∀ k, k ≠ 2 → k ≠ 3 → k ≠ 4 → cI c' k = cI c k) ∧ ∀ k, k ≠ 0 → cL c' k = cL c k
theorem TI.refl (i : Nat) (c : CC) : TI i c c := ⟨fun _ _ _ => rfl, rfl, rfl, fun _ _ _ _ => rfl, fun _ _ => rfl⟩
theorem TI.tr {i : Nat} {c c1 c2 : CC} (h : TI i c c1) (t : Tr c1 c2) : TI i c c2 := ⟨fun k i' hk => by rw [t.1]; exact h.1 k i' hk, t.2.1.trans h.2.1, t.2.2.1.trans h.2.2.1, fun k a b d => (t.2.2.2.1 k a b d).trans (h.2.2.2.1 k a b d), fun k a => (t.2.2.2.2 k a).trans (h.2.2.2.2 k a)⟩
theorem TI.put {i : Nat} {c c1 : CC} (h : TI i c c1) (A : Nat → Int32) : TI i c (sA c1 12 i A) := ⟨fun k i' hk => by
  rw [cA_A]
  by_cases e : k = 12
  · rw [if_pos e, if_neg (by omega)]; exact h.1 k i' hk
  · rw [if_neg e]; exact h.1 k i' hk, h.2.1, h.2.2.1, h.2.2.2.1, h.2.2.2.2⟩
def mTs (g : MM) (b : Nat) : Nat → MM
  | 0 => g
  | t + 1 => mTurn (mTs g b t) (nI (b + t))
theorem mTs_o (g : MM) (b : Nat) : ∀ t, mA (mTs g b t) = mA g ∧ mJ (mTs g b t) = mJ g ∧ ∀ k, k ≠ 2 → mI (mTs g b t) k = mI g k
  | 0 => ⟨rfl, rfl, fun _ _ => rfl⟩
  | t + 1 => ⟨(mTs_o g b t).1, (mTs_o g b t).2.1, fun k hk => by rw [mTs, mTurn, mI_I, if_neg hk]; exact (mTs_o g b t).2.2 k hk⟩
theorem up1_id {α : Type} (f : Nat → α) (k : Nat) : up1 f k (f k) = f := by
  funext j; unfold up1; split
  · next e => rw [e]
  · rfl
theorem mSpend_m {g : MM} (h : mI g 3 = -1) : mSpend g = g := by
  unfold mSpend; rw [if_pos (by rw [h]; decide)]; unfold smI mI; rw [up1_id]
theorem PW_m {g : MM} (h : mI g 3 = -1) (h4 : ¬ mI g 4 = 0) : PW g := ⟨h4, by rw [h]; decide⟩
theorem c_Img_pack (l : Launch) (G : GG) (a : AD) (c : CC) (m : MM) (o : OO) (i : Nat) (x : Int32) (fo : Nat → Option Nat) (nm fs ln : Nat → Int32) (hi : i < 2) (hF9 : FOk c fo) (hE : EntD c fo nm fs ln) : CT l G y_Img_pack (.code y_Img_pack b_Img_pack 6 none) 1 0 0 (Fyes G) (wld G a c m o) [.ref (a 11 i), .ref (a 3 0), .int x] (fun r w2 => r = .inl none ∧ w2 = wld G a (sA c 12 i (cPk (cA c 12 i) x nm fs ln (cA c 7 0))) m o) := by
  refine CT.of (by decide) (Nat.le_of_ble_eq_true rfl) rfl ?_
  intro E hl hG hF C r hw hex hnm
  subst hl; subst hG
  have Fw : Cw E := fun a h => by rw [hF]; exact h
  have lp2 : ∀ (n t : Nat) , 101 - t < n → t ≤ 101 → AW E false 0 0 (wld (eG E) a (sA c 12 i (cLkN (cPkN (pB (cA c 12 i) 0 x.toInt64 1) nm fs ln 8) (cA c 7 0) t)) m o) 110 [(0, .ref (a 11 i)), (1, .ref (a 3 0)), (2, .int x), (3, .int (nI t))] [] := by
    intro n
    induction n with
    | zero => intro t  h1 h2; omega
    | succ n ih =>
      intro t  h1t h2t
      refine aw_iload_n (i := 3) C (dec D_Img_pack rfl) rfl rfl ?_
      refine aw_bipush (v := 101) C (dec D_Img_pack rfl) (by decide) ?_
      refine aw_icmp_ge (tgt := 138) C (dec D_Img_pack rfl) (by decide) (fun hb => ?_) (fun hb => ?_)
      · have e9 : t = 101 := by have := ix_ge (N := 101) hb; omega
        subst e9
        refine aw_aload_n (i := 0) C (dec D_Img_pack rfl) rfl rfl ?_
        refine aw_sipush (v := 158) C (dec D_Img_pack rfl) (by decide) ?_
        refine aw_aload_n (i := 0) C (dec D_Img_pack rfl) rfl rfl ?_
        refine aw_cv C ci_Img_20 [] (c_Img_sum _ _ _ _ _ _ i (by exact hi)) (dec D_Img_pack rfl) (rcI (by exact hi)) rfl fpP (Nat.le_of_ble_eq_true rfl) (by decide) ⟨by decide, by decide⟩ (fun v w2 hp => ?_) (fun _ _ h => by cases h.1)
        obtain ⟨hv, rfl⟩ := hp
        cases hv
        rw [cA_self]
        refine aw_i2l C (dec D_Img_pack rfl) ?_
        refine aw_iconst (v := 2) C (dec D_Img_pack rfl) (by decide) ?_
        refine aw_cv C ci_Img_24 [_, _, _] (c_Img_put _ _ _ _ _ _ i 158 _ 2 (by exact hi) (by omega)) (dec D_Img_pack rfl) (rcI (by exact hi)) rfl (fpW Fw) (Nat.le_of_ble_eq_true rfl) (by decide) ⟨by decide, by decide⟩ (fun v w2 hp => ?_) (fun _ _ h => by cases h.1)
        obtain ⟨hv, rfl⟩ := hp
        cases hv
        rw [cA_self, sA_sA]
        refine aw_ret_v C r (dec D_Img_pack rfl) (by decide) (by decide) ?_
        exact ⟨rfl, rfl⟩
      · have htt : t < 101 := ix_lt (N := 101) hb
        refine aw_aload_n (i := 0) C (dec D_Img_pack rfl) rfl rfl ?_
        refine aw_bipush (v := 57) C (dec D_Img_pack rfl) (by decide) ?_
        refine aw_iload_n (i := 3) C (dec D_Img_pack rfl) rfl rfl ?_
        refine aw_iadd C (dec D_Img_pack rfl) ?_
        rw [nI_57]
        refine aw_aload_n (i := 1) C (dec D_Img_pack rfl) rfl rfl ?_
        refine gf_Img_46 C (dec D_Img_pack rfl) ?_
        refine aw_iload_n (i := 3) C (dec D_Img_pack rfl) rfl rfl ?_
        refine al_C7 C t (dec D_Img_pack rfl) (ix_of htt) ?_
        refine aw_i2l C (dec D_Img_pack rfl) ?_
        refine aw_iconst (v := 1) C (dec D_Img_pack rfl) (by decide) ?_
        refine aw_cv C ci_Img_24 [_, _, _] (c_Img_put _ _ _ _ _ _ i (57 + t) (cA c 7 0 t).toInt64 1 (by exact hi) (by omega)) (dec D_Img_pack rfl) (rcI (by exact hi)) rfl (fpW Fw) (Nat.le_of_ble_eq_true rfl) (by decide) ⟨by decide, by decide⟩ (fun v w2 hp => ?_) (fun _ _ h => by cases h.1)
        obtain ⟨hv, rfl⟩ := hp
        cases hv
        rw [cA_self, sA_sA]
        refine aw_iinc C (dec D_Img_pack rfl) rfl (nI_inc t) (by decide) ?_
        refine aw_goto (tgt := 110) C (dec D_Img_pack rfl) (by decide) ?_
        exact ih (t + 1) (by omega) (by omega)
  have lp1 : ∀ (n t : Nat) , 8 - t < n → t ≤ 8 → AW E false 0 0 (wld (eG E) a (sA c 12 i (cPkN (pB (cA c 12 i) 0 x.toInt64 1) nm fs ln t)) m o) 10 [(0, .ref (a 11 i)), (1, .ref (a 3 0)), (2, .int x), (3, .int (nI t))] [] := by
    intro n
    induction n with
    | zero => intro t  h1 h2; omega
    | succ n ih =>
      intro t  h1t h2t
      refine aw_iload_n (i := 3) C (dec D_Img_pack rfl) rfl rfl ?_
      refine aw_bipush (v := 8) C (dec D_Img_pack rfl) (by decide) ?_
      refine aw_icmp_ge (tgt := 108) C (dec D_Img_pack rfl) (by decide) (fun hb => ?_) (fun hb => ?_)
      · have e9 : t = 8 := by have := ix_ge (N := 8) hb; omega
        subst e9
        refine AW.ls [(0, .ref (a 11 i)), (1, .ref (a 3 0)), (2, .int x)] rfl ?_
        refine aw_iconst (v := 0) C (dec D_Img_pack rfl) (by decide) ?_
        refine aw_istore_n (i := 3) C (dec D_Img_pack rfl) rfl (by decide) ?_
        exact lp2 102 0 (by omega) (by omega)
      · have htt : t < 8 := ix_lt (N := 8) hb
        have hf := hF9 t htt
        have he := hE t htt
        have ih9 := ih (t + 1) (by omega) (by omega)
        rw [cPkN] at ih9
        refine aw_aload_n (i := 1) C (dec D_Img_pack rfl) rfl rfl ?_
        refine gf_Img_28 C (dec D_Img_pack rfl) ?_
        refine aw_iload_n (i := 3) C (dec D_Img_pack rfl) rfl rfl ?_
        refine al_C6 C t (dec D_Img_pack rfl) (ix_of htt) ?_
        rw [show cR (sA c 12 i (cPkN (pB (cA c 12 i) 0 x.toInt64 1) nm fs ln t)) 6 0 t = fo t from hf.1]
        generalize cPkN (pB (cA c 12 i) 0 x.toInt64 1) nm fs ln t = A at ih9 ⊢
        cases hz : fo t with
        | none =>
          obtain ⟨e1, e2, e3⟩ := he.1 hz
          rw [e1, e2, e3, show (0 : Int32).toInt64 = 0 from rfl] at ih9
          refine aw_astoreN C (dec D_Img_pack rfl) (by decide) ?_
          refine aw_iconst (v := 1) C (dec D_Img_pack rfl) (by decide) ?_
          refine aw_bipush (v := 7) C (dec D_Img_pack rfl) (by decide) ?_
          refine aw_iload_n (i := 3) C (dec D_Img_pack rfl) rfl rfl ?_
          refine aw_imul C (dec D_Img_pack rfl) ?_
          refine aw_iadd C (dec D_Img_pack rfl) ?_
          rw [show (1 : Int32) + 7 * nI t = nI (1 + 7 * t) from nI_k7 1 t]
          refine aw_istore C (dec D_Img_pack rfl) (by decide) ?_
          refine aw_aload_n (i := 0) C (dec D_Img_pack rfl) rfl rfl ?_
          refine aw_iload C (dec D_Img_pack rfl) rfl ?_
          refine aw_aloadN C (dec D_Img_pack rfl) rfl ?_
          refine aw_ifnonnullN C (dec D_Img_pack rfl) ?_
          refine aw_lconst (v := 0) C (dec D_Img_pack rfl) (by decide) ?_
          refine aw_goto (tgt := 50) C (dec D_Img_pack rfl) (by decide) ?_
          refine aw_iconst (v := 4) C (dec D_Img_pack rfl) (by decide) ?_
          refine aw_cv C ci_Img_24 [_, _, _] (c_Img_put _ _ _ _ _ _ i (1 + 7 * t) _ 4 (by exact hi) (by omega)) (dec D_Img_pack rfl) (rcI (by exact hi)) rfl (fpW Fw) (Nat.le_of_ble_eq_true rfl) (by decide) ⟨by decide, by decide⟩ (fun v w2 hp => ?_) (fun _ _ h => by cases h.1)
          obtain ⟨hv, rfl⟩ := hp
          cases hv
          rw [cA_self, sA_sA]
          refine aw_aload_n (i := 0) C (dec D_Img_pack rfl) rfl rfl ?_
          refine aw_iload C (dec D_Img_pack rfl) rfl ?_
          refine aw_iconst (v := 4) C (dec D_Img_pack rfl) (by decide) ?_
          refine aw_iadd C (dec D_Img_pack rfl) ?_
          rw [show nI (1 + 7 * t) + 4 = nI (1 + 7 * t + 4) from nI_add _ 4]
          refine aw_aloadN C (dec D_Img_pack rfl) rfl ?_
          refine aw_ifnonnullN C (dec D_Img_pack rfl) ?_
          refine aw_lconst (v := 0) C (dec D_Img_pack rfl) (by decide) ?_
          refine aw_goto (tgt := 74) C (dec D_Img_pack rfl) (by decide) ?_
          refine aw_iconst (v := 1) C (dec D_Img_pack rfl) (by decide) ?_
          refine aw_cv C ci_Img_24 [_, _, _] (c_Img_put _ _ _ _ _ _ i (1 + 7 * t + 4) _ 1 (by exact hi) (by omega)) (dec D_Img_pack rfl) (rcI (by exact hi)) rfl (fpW Fw) (Nat.le_of_ble_eq_true rfl) (by decide) ⟨by decide, by decide⟩ (fun v w2 hp => ?_) (fun _ _ h => by cases h.1)
          obtain ⟨hv, rfl⟩ := hp
          cases hv
          rw [cA_self, sA_sA]
          refine aw_aload_n (i := 0) C (dec D_Img_pack rfl) rfl rfl ?_
          refine aw_iload C (dec D_Img_pack rfl) rfl ?_
          refine aw_iconst (v := 5) C (dec D_Img_pack rfl) (by decide) ?_
          refine aw_iadd C (dec D_Img_pack rfl) ?_
          rw [show nI (1 + 7 * t) + 5 = nI (1 + 7 * t + 5) from nI_add _ 5]
          refine aw_aloadN C (dec D_Img_pack rfl) rfl ?_
          refine aw_ifnonnullN C (dec D_Img_pack rfl) ?_
          refine aw_lconst (v := 0) C (dec D_Img_pack rfl) (by decide) ?_
          refine aw_goto (tgt := 98) C (dec D_Img_pack rfl) (by decide) ?_
          refine aw_iconst (v := 2) C (dec D_Img_pack rfl) (by decide) ?_
          refine aw_cv C ci_Img_24 [_, _, _] (c_Img_put _ _ _ _ _ _ i (1 + 7 * t + 5) _ 2 (by exact hi) (by omega)) (dec D_Img_pack rfl) (rcI (by exact hi)) rfl (fpW Fw) (Nat.le_of_ble_eq_true rfl) (by decide) ⟨by decide, by decide⟩ (fun v w2 hp => ?_) (fun _ _ h => by cases h.1)
          obtain ⟨hv, rfl⟩ := hp
          cases hv
          rw [cA_self, sA_sA]
          refine aw_iinc C (dec D_Img_pack rfl) rfl (nI_inc t) (by decide) ?_
          refine aw_goto (tgt := 10) C (dec D_Img_pack rfl) (by decide) ?_
          refine AW.ls [(0, .ref (a 11 i)), (1, .ref (a 3 0)), (2, .int x), (3, .int (nI (t + 1)))] rfl ?_
          exact ih9
        | some j =>
          obtain ⟨e1, e2, e3⟩ := he.2 j hz
          have hj := hf.2 j hz
          rw [e1, e2, e3] at ih9
          refine aw_astore C (dec D_Img_pack rfl) (by decide) ?_
          refine aw_iconst (v := 1) C (dec D_Img_pack rfl) (by decide) ?_
          refine aw_bipush (v := 7) C (dec D_Img_pack rfl) (by decide) ?_
          refine aw_iload_n (i := 3) C (dec D_Img_pack rfl) rfl rfl ?_
          refine aw_imul C (dec D_Img_pack rfl) ?_
          refine aw_iadd C (dec D_Img_pack rfl) ?_
          rw [show (1 : Int32) + 7 * nI t = nI (1 + 7 * t) from nI_k7 1 t]
          refine aw_istore C (dec D_Img_pack rfl) (by decide) ?_
          refine aw_aload_n (i := 0) C (dec D_Img_pack rfl) rfl rfl ?_
          refine aw_iload C (dec D_Img_pack rfl) rfl ?_
          refine aw_aload C (dec D_Img_pack rfl) rfl ?_
          refine aw_ifnonnull (tgt := 44) C (dec D_Img_pack rfl) (by decide) ?_
          refine aw_aload C (dec D_Img_pack rfl) rfl ?_
          refine gf_Img_34 C (by exact hj) (dec D_Img_pack rfl) ?_
          refine aw_i2l C (dec D_Img_pack rfl) ?_
          refine aw_iconst (v := 4) C (dec D_Img_pack rfl) (by decide) ?_
          refine aw_cv C ci_Img_24 [_, _, _] (c_Img_put _ _ _ _ _ _ i (1 + 7 * t) _ 4 (by exact hi) (by omega)) (dec D_Img_pack rfl) (rcI (by exact hi)) rfl (fpW Fw) (Nat.le_of_ble_eq_true rfl) (by decide) ⟨by decide, by decide⟩ (fun v w2 hp => ?_) (fun _ _ h => by cases h.1)
          obtain ⟨hv, rfl⟩ := hp
          cases hv
          rw [cA_self, sA_sA]
          refine aw_aload_n (i := 0) C (dec D_Img_pack rfl) rfl rfl ?_
          refine aw_iload C (dec D_Img_pack rfl) rfl ?_
          refine aw_iconst (v := 4) C (dec D_Img_pack rfl) (by decide) ?_
          refine aw_iadd C (dec D_Img_pack rfl) ?_
          rw [show nI (1 + 7 * t) + 4 = nI (1 + 7 * t + 4) from nI_add _ 4]
          refine aw_aload C (dec D_Img_pack rfl) rfl ?_
          refine aw_ifnonnull (tgt := 68) C (dec D_Img_pack rfl) (by decide) ?_
          refine aw_aload C (dec D_Img_pack rfl) rfl ?_
          refine gf_Img_40 C (by exact hj) (dec D_Img_pack rfl) ?_
          refine aw_i2l C (dec D_Img_pack rfl) ?_
          refine aw_iconst (v := 1) C (dec D_Img_pack rfl) (by decide) ?_
          refine aw_cv C ci_Img_24 [_, _, _] (c_Img_put _ _ _ _ _ _ i (1 + 7 * t + 4) _ 1 (by exact hi) (by omega)) (dec D_Img_pack rfl) (rcI (by exact hi)) rfl (fpW Fw) (Nat.le_of_ble_eq_true rfl) (by decide) ⟨by decide, by decide⟩ (fun v w2 hp => ?_) (fun _ _ h => by cases h.1)
          obtain ⟨hv, rfl⟩ := hp
          cases hv
          rw [cA_self, sA_sA]
          refine aw_aload_n (i := 0) C (dec D_Img_pack rfl) rfl rfl ?_
          refine aw_iload C (dec D_Img_pack rfl) rfl ?_
          refine aw_iconst (v := 5) C (dec D_Img_pack rfl) (by decide) ?_
          refine aw_iadd C (dec D_Img_pack rfl) ?_
          rw [show nI (1 + 7 * t) + 5 = nI (1 + 7 * t + 5) from nI_add _ 5]
          refine aw_aload C (dec D_Img_pack rfl) rfl ?_
          refine aw_ifnonnull (tgt := 92) C (dec D_Img_pack rfl) (by decide) ?_
          refine aw_aload C (dec D_Img_pack rfl) rfl ?_
          refine gf_Img_43 C (by exact hj) (dec D_Img_pack rfl) ?_
          refine aw_i2l C (dec D_Img_pack rfl) ?_
          refine aw_iconst (v := 2) C (dec D_Img_pack rfl) (by decide) ?_
          refine aw_cv C ci_Img_24 [_, _, _] (c_Img_put _ _ _ _ _ _ i (1 + 7 * t + 5) _ 2 (by exact hi) (by omega)) (dec D_Img_pack rfl) (rcI (by exact hi)) rfl (fpW Fw) (Nat.le_of_ble_eq_true rfl) (by decide) ⟨by decide, by decide⟩ (fun v w2 hp => ?_) (fun _ _ h => by cases h.1)
          obtain ⟨hv, rfl⟩ := hp
          cases hv
          rw [cA_self, sA_sA]
          refine aw_iinc C (dec D_Img_pack rfl) rfl (nI_inc t) (by decide) ?_
          refine aw_goto (tgt := 10) C (dec D_Img_pack rfl) (by decide) ?_
          refine AW.ls [(0, .ref (a 11 i)), (1, .ref (a 3 0)), (2, .int x), (3, .int (nI (t + 1)))] rfl ?_
          exact ih9
  refine aw_aload_n (i := 0) C (dec D_Img_pack rfl) rfl rfl ?_
  refine aw_iconst (v := 0) C (dec D_Img_pack rfl) (by decide) ?_
  refine aw_iload_n (i := 2) C (dec D_Img_pack rfl) rfl rfl ?_
  refine aw_i2l C (dec D_Img_pack rfl) ?_
  refine aw_iconst (v := 1) C (dec D_Img_pack rfl) (by decide) ?_
  refine aw_cv C ci_Img_24 [_, _, _] (c_Img_put _ _ _ _ _ _ i 0 _ 1 (by exact hi) (by omega)) (dec D_Img_pack rfl) (rcI (by exact hi)) rfl (fpW Fw) (Nat.le_of_ble_eq_true rfl) (by decide) ⟨by decide, by decide⟩ (fun v w2 hp => ?_) (fun _ _ h => by cases h.1)
  obtain ⟨hv, rfl⟩ := hp
  cases hv
  refine aw_iconst (v := 0) C (dec D_Img_pack rfl) (by decide) ?_
  refine aw_istore_n (i := 3) C (dec D_Img_pack rfl) rfl (by decide) ?_
  exact lp1 9 0 (by omega) (by omega)
theorem c_Img_readS (l : Launch) (G : GG) (a : AD) (c : CC) (m : MM) (o : OO) (i : Nat) (lp : Nat → Nat) (g : MM) (hi : i < 2) (h : R0 c lp g) (hon : ¬ mI g 4 = 0) (hmp : mI g 1 = 1) (h3 : mI g 3 = -1) : CT l G y_Img_read (.code y_Img_read b_Img_read 4 none) 3 0 0 (Fyes G) (wld G a c m o) [.ref (a 11 i), .ref (a 2 0), .int (nI i)] (fun r w2 => ∃ c1, TI i c c1 ∧ R0 c1 lp (mTs g (20 * i) 20) ∧ cA c1 12 i = rdA (cA c 12 i) (mJ g 2) i 20 ∧ r = .inl none ∧ w2 = wld G a c1 m o) := by
  refine CT.of (by decide) (Nat.le_of_ble_eq_true rfl) rfl ?_
  intro E hl hG hF C r hw hex hnm
  subst hl; subst hG
  have Fw : Cw E := fun a h => by rw [hF]; exact h
  have lp_ : ∀ (n t : Nat) (c1 : CC), 20 - t < n → t ≤ 20 → (TI i c c1 ∧ R0 c1 lp (mTs g (20 * i) t) ∧ cA c1 12 i = rdA (cA c 12 i) (mJ g 2) i t) → AW E false 0 0 (wld (eG E) a c1 m o) 2 [(0, .ref (a 11 i)), (1, .ref (a 2 0)), (2, .int (nI i)), (3, .int (nI t))] [] := by
    intro n
    induction n with
    | zero => intro t c1 h1 h2 hx; omega
    | succ n ih =>
      intro t c1 h1t h2t hx
      refine aw_iload_n (i := 3) C (dec D_Img_read rfl) rfl rfl ?_
      refine aw_bipush (v := 20) C (dec D_Img_read rfl) (by decide) ?_
      refine aw_icmp_ge (tgt := 34) C (dec D_Img_read rfl) (by decide) (fun hb => ?_) (fun hb => ?_)
      · have e9 : t = 20 := by have := ix_ge (N := 20) hb; omega
        subst e9
        refine aw_ret_v C r (dec D_Img_read rfl) (by decide) (by decide) ?_
        exact ⟨c1, hx.1, hx.2.1, hx.2.2, rfl, rfl⟩
      · have htt : t < 20 := ix_lt (N := 20) hb
        obtain ⟨t1, r1, a1⟩ := hx; have ho := mTs_o g (20 * i) t
        have pw : PW (mTs g (20 * i) t) := PW_m (by rw [ho.2.2 3 (by decide)]; exact h3) (by rw [ho.2.2 4 (by decide)]; exact hon)
        have hm1 : mI (mTs g (20 * i) t) 1 = 1 := by rw [ho.2.2 1 (by decide)]; exact hmp
        obtain ⟨mp, hD⟩ := r1.2.2.2.2.2.2.2 hm1
        have h31 : ¬ cI c1 3 0 = 0 := fun z => pw.2 (r1.2.2.2.2.1 ▸ z)
        have r2 := r1.rd pw (p := 20 * i + t) (by omega)
        rw [(mRead_pw pw _).1, mSpend_m (by rw [ho.2.2 3 (by decide)]; exact h3)] at r2
        refine aw_aload_n (i := 0) C (dec D_Img_read rfl) rfl rfl ?_
        refine aw_bipush (v := 8) C (dec D_Img_read rfl) (by decide) ?_
        refine aw_iload_n (i := 3) C (dec D_Img_read rfl) rfl rfl ?_
        refine aw_imul C (dec D_Img_read rfl) ?_
        rw [nI_mul8]
        refine aw_aload_n (i := 1) C (dec D_Img_read rfl) rfl rfl ?_
        refine aw_bipush (v := 20) C (dec D_Img_read rfl) (by decide) ?_
        refine aw_iload_n (i := 2) C (dec D_Img_read rfl) rfl rfl ?_
        refine aw_imul C (dec D_Img_read rfl) ?_
        refine aw_iload_n (i := 3) C (dec D_Img_read rfl) rfl rfl ?_
        refine aw_iadd C (dec D_Img_read rfl) ?_
        rw [show (20 : Int32) = nI 20 from rfl, pk_mul, nI_add]
        refine aw_cv C ci_Img_78 [_] (c_Ctl_read1 _ _ a c1 m o (20 * i + t) lp mp _ h31 (by omega) r1.1 hD) (dec D_Img_read rfl) rcT rfl (fpW Fw) (Nat.le_of_ble_eq_true rfl) (by decide) ⟨by decide, by decide⟩ (fun v w2 hp => ?_) (fun _ _ h => by cases h.1)
        obtain ⟨hv, rfl⟩ := hp
        cases hv
        refine aw_bipush (v := 8) C (dec D_Img_read rfl) (by decide) ?_
        refine aw_cv C ci_Img_24 [_, _, _] (c_Img_put _ _ _ _ _ _ i (8 * t) _ 8 (by exact hi) (by omega)) (dec D_Img_read rfl) (rcI (by exact hi)) rfl (fpW Fw) (Nat.le_of_ble_eq_true rfl) (by decide) ⟨by decide, by decide⟩ (fun v w2 hp => ?_) (fun _ _ h => by cases h.1)
        obtain ⟨hv, rfl⟩ := hp
        cases hv
        refine aw_iinc C (dec D_Img_read rfl) rfl (nI_inc t) (by decide) ?_
        refine aw_goto (tgt := 2) C (dec D_Img_read rfl) (by decide) ?_
        refine ih (t + 1) _ (by omega) (by omega) ⟨(t1.tr (Tr.rd c1 _)).put _, ?_, ?_⟩
        · exact r2.of rfl ⟨rfl, rfl⟩ (fun _ _ => rfl) rfl (by funext i'; rw [cA_A, if_neg (by decide)]) rfl (fun _ _ => rfl) rfl rfl rfl
        · rw [cA_self]; show pB (cA c1 12 i) _ _ _ = _; rw [a1, rdA, ho.2.1]
  refine aw_iconst (v := 0) C (dec D_Img_read rfl) (by decide) ?_
  refine aw_istore_n (i := 3) C (dec D_Img_read rfl) rfl (by decide) ?_
  exact AW.impure (lp_ 21 0 c (by omega) (by omega) ⟨TI.refl i c, h, rfl⟩)
