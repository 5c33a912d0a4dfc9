/-! the model: which pages are used, held, free; printed by tools/m22.py -/
def pg (n : Nat) : Nat := (n + 7) / 8
theorem pgE {x : Int32} {n : Nat} (e : x = nI n) (h : n ≤ 488) : (x + 7) / 8 = nI (pg n) := by
  rw [e, show (7 : Int32) = nI 7 from rfl, nI_add, show (8 : Int32) = nI 8 from rfl, pk_div (by omega) (by omega) (by omega)]; rfl
theorem pg_le {n : Nat} (h : n ≤ 488) : pg n ≤ 61 := by unfold pg; omega
def bI (b : Bool) : Int32 := if b = true then 1 else 0
theorem bI_bz (b : Bool) : bI b = 0 ∨ bI b = 1 := by cases b <;> simp [bI]
theorem bI_0 {b : Bool} : bI b = 0 ↔ b = false := by cases b <;> simp [bI]
/-- the lengths are L -/
def MLn (m : MM) (L : Nat → Nat) : Prop := ∀ f, f < 8 → mA m 4 f = nI (L f) ∧ L f ≤ 488
def uI (m : MM) (p : Int32) (f i : Nat) : Bool := (List.range i).any fun j => decide (mA m 5 (64 * f + j) = p)
def uO (m : MM) (L : Nat → Nat) (p : Int32) (f : Nat) : Bool := (List.range f).any fun g => uI m p g (pg (L g))
def mUsed (m : MM) (L : Nat → Nat) (p : Int32) : Bool := uO m L p 8
theorem uI_s (m : MM) (p : Int32) (f i : Nat) : uI m p f (i + 1) = (uI m p f i || decide (mA m 5 (64 * f + i) = p)) := by simp [uI, List.range_succ]
theorem uO_s (m : MM) (L : Nat → Nat) (p : Int32) (f : Nat) : uO m L p (f + 1) = (uO m L p f || uI m p f (pg (L f))) := by simp [uO, List.range_succ]
def mFree (m : MM) (L : Nat → Nat) (p : Nat) : Bool := decide (39 < p) && !mUsed m L (nI p) && decide (mA m 9 p = 0)
def mHoldN (m : MM) (L : Nat → Nat) : Nat → MM
  | 0 => m
  | t + 1 => mS (mHoldN m L t) 9 t (bI (mUsed (mHoldN m L t) L (nI t)))
theorem MLn.hold {m : MM} {L : Nat → Nat} (h : MLn m L) : ∀ t, MLn (mHoldN m L t) L
  | 0 => h
  | t + 1 => fun f hf => h.hold t f hf
/-- the least free page from k on, by so many tries -/
def mLeast (m : MM) (L : Nat → Nat) : Nat → Nat → Int32
  | 0, _ => -1
  | n + 1, k => if mFree m L k = true then nI k else mLeast m L n (k + 1)
theorem c_Mod_isUsed (l : Launch) (G : GG) (a : AD) (c : CC) (m : MM) (o : OO) (p : Int32) (L : Nat → Nat) (hL : MLn m L) : CT l G y_Mod_isUsed (.code y_Mod_isUsed b_Mod_isUsed 5 (some .boolean)) 1 0 0 Fno (wld G a c m o) [.ref (a 30 0), .int p] (fun r w2 => r = .inl (some (.int (bI (mUsed m L p)))) ∧ w2 = wld G a c m o) := by
  refine CT.of (by decide) (Nat.le_of_ble_eq_true rfl) rfl ?_
  intro E hl hG hF C r hw hex hnm
  subst hl; subst hG
  have lp1 : ∀ (n t : Nat) (is : Int32), 8 - t < n → t ≤ 8 → is = bI (uO m L p t) → AW E true 0 0 (wld (eG E) a c m o) 4 [(0, .ref (a 30 0)), (1, .int p), (2, .int is), (3, .int (nI t))] [] := by
    intro n
    induction n with
    | zero => intro t is h1 h2 hx0; omega
    | succ n ih =>
      intro t is h1t h2t hx0
      refine aw_iload_n (i := 3) C (dec D_Mod_isUsed rfl) rfl rfl ?_
      refine aw_bipush (v := 8) C (dec D_Mod_isUsed rfl) (by decide) ?_
      refine aw_icmp_ge (tgt := 61) C (dec D_Mod_isUsed rfl) (by decide) (fun hb => ?_) (fun hb => ?_)
      · try simp only [mI_I, mL_I, mA_I, mJ_I, mI_L, mL_L, mA_L, mJ_L, mI_A, mL_A, mA_A, mJ_A, mI_J, mL_J, mA_J, mJ_J, cI_I, cL_I, cA_I, cJ_I, cR_I, cN_I, cI_L, cL_L, cA_L, cJ_L, cR_L, cN_L, cI_A, cL_A, cA_A, cJ_A, cR_A, cN_A, cI_J, cL_J, cA_J, cJ_J, cR_J, cN_J, cI_R, cL_R, cA_R, cJ_R, cR_R, cN_R, cI_N, cL_N, cA_N, cJ_N, cR_N, cN_N, ↓reduceIte, Nat.reduceEqDiff, upd_at, updL_at] at hb
        have e9 : t = 8 := by have := ix_ge (N := 8) hb; omega
        subst e9
        refine aw_iload_n (i := 2) C (dec D_Mod_isUsed rfl) rfl rfl ?_
        refine aw_ret_i C r (dec D_Mod_isUsed rfl) (bz_n (by rw [hx0]; exact bI_bz _)).1 (by decide) (by decide) ?_
        exact ⟨by rw [hx0]; rfl, rfl⟩
      · try simp only [mI_I, mL_I, mA_I, mJ_I, mI_L, mL_L, mA_L, mJ_L, mI_A, mL_A, mA_A, mJ_A, mI_J, mL_J, mA_J, mJ_J, cI_I, cL_I, cA_I, cJ_I, cR_I, cN_I, cI_L, cL_L, cA_L, cJ_L, cR_L, cN_L, cI_A, cL_A, cA_A, cJ_A, cR_A, cN_A, cI_J, cL_J, cA_J, cJ_J, cR_J, cN_J, cI_R, cL_R, cA_R, cJ_R, cR_R, cN_R, cI_N, cL_N, cA_N, cJ_N, cR_N, cN_N, ↓reduceIte, Nat.reduceEqDiff, upd_at, updL_at] at hb
        have htt : t < 8 := ix_lt (N := 8) hb
        have hpg := pg_le (hL t htt).2
        refine aw_iconst (v := 0) C (dec D_Mod_isUsed rfl) (by decide) ?_
        refine aw_istore C (dec D_Mod_isUsed rfl) (by decide) ?_
        have lp2 : ∀ (n2 i : Nat) (is : Int32), (pg (L t)) - i < n2 → i ≤ (pg (L t)) → is = bI (uO m L p t || uI m p t i) → AW E true 0 0 (wld (eG E) a c m o) 13 [(0, .ref (a 30 0)), (1, .int p), (2, .int is), (3, .int (nI t)), (4, .int (nI i))] [] := by
          intro n2
          induction n2 with
          | zero => intro i is h1 h2 hx; omega
          | succ n2 ih2 =>
            intro i is h1i h2i hx
            refine aw_iload C (dec D_Mod_isUsed rfl) rfl ?_
            refine aw_aload_n (i := 0) C (dec D_Mod_isUsed rfl) rfl rfl ?_
            refine aw_iload_n (i := 3) C (dec D_Mod_isUsed rfl) rfl rfl ?_
            refine aw_cv C ci_Mod_122 [_] (c_Mod_pages _ _ _ _ _ _ t htt) (dec D_Mod_isUsed rfl) rcM rfl fpP (Nat.le_of_ble_eq_true rfl) (by decide) ⟨by decide, by decide⟩ (fun v w2 hp => ?_) (fun _ _ h => by cases h.1)
            obtain ⟨hv, rfl⟩ := hp
            cases hv
            rw [pgE (hL t htt).1 (hL t htt).2]
            refine aw_icmp_ge (tgt := 55) C (dec D_Mod_isUsed rfl) (by decide) (fun hb2 => ?_) (fun hb2 => ?_)
            · try simp only [mI_I, mL_I, mA_I, mJ_I, mI_L, mL_L, mA_L, mJ_L, mI_A, mL_A, mA_A, mJ_A, mI_J, mL_J, mA_J, mJ_J, cI_I, cL_I, cA_I, cJ_I, cR_I, cN_I, cI_L, cL_L, cA_L, cJ_L, cR_L, cN_L, cI_A, cL_A, cA_A, cJ_A, cR_A, cN_A, cI_J, cL_J, cA_J, cJ_J, cR_J, cN_J, cI_R, cL_R, cA_R, cJ_R, cR_R, cN_R, cI_N, cL_N, cA_N, cJ_N, cR_N, cN_N, ↓reduceIte, Nat.reduceEqDiff, upd_at, updL_at] at hb2
              have e9 : i = (pg (L t)) := by have := ix_ge (N := (pg (L t))) hb2; omega
              subst e9
              refine AW.ls [(0, .ref (a 30 0)), (1, .int p), (2, .int is), (3, .int (nI t))] rfl ?_
              refine aw_iinc C (dec D_Mod_isUsed rfl) rfl (nI_inc t) (by decide) ?_
              refine aw_goto (tgt := 4) C (dec D_Mod_isUsed rfl) (by decide) ?_
              exact ih (t + 1) is (by omega) (by omega) (by rw [uO_s]; exact hx)
            · try simp only [mI_I, mL_I, mA_I, mJ_I, mI_L, mL_L, mA_L, mJ_L, mI_A, mL_A, mA_A, mJ_A, mI_J, mL_J, mA_J, mJ_J, cI_I, cL_I, cA_I, cJ_I, cR_I, cN_I, cI_L, cL_L, cA_L, cJ_L, cR_L, cN_L, cI_A, cL_A, cA_A, cJ_A, cR_A, cN_A, cI_J, cL_J, cA_J, cJ_J, cR_J, cN_J, cI_R, cL_R, cA_R, cJ_R, cR_R, cN_R, cI_N, cL_N, cA_N, cJ_N, cR_N, cN_N, ↓reduceIte, Nat.reduceEqDiff, upd_at, updL_at] at hb2
              have hti : i < (pg (L t)) := ix_lt (N := (pg (L t))) hb2
              refine aw_iload_n (i := 2) C (dec D_Mod_isUsed rfl) rfl rfl ?_
              refine aw_if_ne (tgt := 43) C (dec D_Mod_isUsed rfl) (by decide) (fun h24 => ?_) (fun h24 => ?_)
              · try simp only [mI_I, mL_I, mA_I, mJ_I, mI_L, mL_L, mA_L, mJ_L, mI_A, mL_A, mA_A, mJ_A, mI_J, mL_J, mA_J, mJ_J, cI_I, cL_I, cA_I, cJ_I, cR_I, cN_I, cI_L, cL_L, cA_L, cJ_L, cR_L, cN_L, cI_A, cL_A, cA_A, cJ_A, cR_A, cN_A, cI_J, cL_J, cA_J, cJ_J, cR_J, cN_J, cI_R, cL_R, cA_R, cJ_R, cR_R, cN_R, cI_N, cL_N, cA_N, cJ_N, cR_N, cN_N, ↓reduceIte, Nat.reduceEqDiff, upd_at, updL_at] at h24
                refine aw_iconst (v := 1) C (dec D_Mod_isUsed rfl) (by decide) ?_
                refine aw_goto (tgt := 48) C (dec D_Mod_isUsed rfl) (by decide) ?_
                refine aw_istore_n (i := 2) C (dec D_Mod_isUsed rfl) rfl (by decide) ?_
                refine aw_iinc C (dec D_Mod_isUsed rfl) rfl (nI_inc i) (by decide) ?_
                refine aw_goto (tgt := 13) C (dec D_Mod_isUsed rfl) (by decide) ?_
                exact ih2 (i + 1) 1 (by omega) (by omega) (by rw [uI_s]; first | (simp [h40, bI]; done) | (have z := mt bI_0.mpr (hx ▸ h24); simp only [Bool.not_eq_false, Bool.or_eq_true] at z; rcases z with z | z <;> simp [z, bI]))
              · try simp only [mI_I, mL_I, mA_I, mJ_I, mI_L, mL_L, mA_L, mJ_L, mI_A, mL_A, mA_A, mJ_A, mI_J, mL_J, mA_J, mJ_J, cI_I, cL_I, cA_I, cJ_I, cR_I, cN_I, cI_L, cL_L, cA_L, cJ_L, cR_L, cN_L, cI_A, cL_A, cA_A, cJ_A, cR_A, cN_A, cI_J, cL_J, cA_J, cJ_J, cR_J, cN_J, cI_R, cL_R, cA_R, cJ_R, cR_R, cN_R, cI_N, cL_N, cA_N, cJ_N, cR_N, cN_N, ↓reduceIte, Nat.reduceEqDiff, upd_at, updL_at] at h24
                refine aw_aload_n (i := 0) C (dec D_Mod_isUsed rfl) rfl rfl ?_
                refine gf_Mod_32 C (dec D_Mod_isUsed rfl) ?_
                refine aw_bipush (v := 64) C (dec D_Mod_isUsed rfl) (by decide) ?_
                refine aw_iload_n (i := 3) C (dec D_Mod_isUsed rfl) rfl rfl ?_
                refine aw_imul C (dec D_Mod_isUsed rfl) ?_
                refine aw_iload C (dec D_Mod_isUsed rfl) rfl ?_
                refine aw_iadd C (dec D_Mod_isUsed rfl) ?_
                refine al_M5 C (64 * t + i) (dec D_Mod_isUsed rfl) (ix_eq (nI_ch t i) (by have := pg_le (hL t htt).2; omega)) ?_
                refine aw_iload_n (i := 1) C (dec D_Mod_isUsed rfl) rfl rfl ?_
                refine aw_icmp_ne (tgt := 47) C (dec D_Mod_isUsed rfl) (by decide) (fun h40 => ?_) (fun h40 => ?_)
                · try simp only [mI_I, mL_I, mA_I, mJ_I, mI_L, mL_L, mA_L, mJ_L, mI_A, mL_A, mA_A, mJ_A, mI_J, mL_J, mA_J, mJ_J, cI_I, cL_I, cA_I, cJ_I, cR_I, cN_I, cI_L, cL_L, cA_L, cJ_L, cR_L, cN_L, cI_A, cL_A, cA_A, cJ_A, cR_A, cN_A, cI_J, cL_J, cA_J, cJ_J, cR_J, cN_J, cI_R, cL_R, cA_R, cJ_R, cR_R, cN_R, cI_N, cL_N, cA_N, cJ_N, cR_N, cN_N, ↓reduceIte, Nat.reduceEqDiff, upd_at, updL_at] at h40
                  refine aw_iconst (v := 0) C (dec D_Mod_isUsed rfl) (by decide) ?_
                  refine aw_istore_n (i := 2) C (dec D_Mod_isUsed rfl) rfl (by decide) ?_
                  refine aw_iinc C (dec D_Mod_isUsed rfl) rfl (nI_inc i) (by decide) ?_
                  refine aw_goto (tgt := 13) C (dec D_Mod_isUsed rfl) (by decide) ?_
                  exact ih2 (i + 1) 0 (by omega) (by omega) (by rw [uI_s]; have z := bI_0.mp (hx ▸ h24); simp only [Bool.or_eq_false_iff] at z; simp [z.1, z.2, h40, bI])
                · try simp only [mI_I, mL_I, mA_I, mJ_I, mI_L, mL_L, mA_L, mJ_L, mI_A, mL_A, mA_A, mJ_A, mI_J, mL_J, mA_J, mJ_J, cI_I, cL_I, cA_I, cJ_I, cR_I, cN_I, cI_L, cL_L, cA_L, cJ_L, cR_L, cN_L, cI_A, cL_A, cA_A, cJ_A, cR_A, cN_A, cI_J, cL_J, cA_J, cJ_J, cR_J, cN_J, cI_R, cL_R, cA_R, cJ_R, cR_R, cN_R, cI_N, cL_N, cA_N, cJ_N, cR_N, cN_N, ↓reduceIte, Nat.reduceEqDiff, upd_at, updL_at] at h40
                  refine aw_iconst (v := 1) C (dec D_Mod_isUsed rfl) (by decide) ?_
                  refine aw_goto (tgt := 48) C (dec D_Mod_isUsed rfl) (by decide) ?_
                  refine aw_istore_n (i := 2) C (dec D_Mod_isUsed rfl) rfl (by decide) ?_
                  refine aw_iinc C (dec D_Mod_isUsed rfl) rfl (nI_inc i) (by decide) ?_
                  refine aw_goto (tgt := 13) C (dec D_Mod_isUsed rfl) (by decide) ?_
                  exact ih2 (i + 1) 1 (by omega) (by omega) (by rw [uI_s]; first | (simp [h40, bI]; done) | (have z := mt bI_0.mpr (hx ▸ h24); simp only [Bool.not_eq_false, Bool.or_eq_true] at z; rcases z with z | z <;> simp [z, bI]))
        exact lp2 (pg (L t) + 1) 0 is (by omega) (by omega) (by rw [hx0]; simp [uI])
  refine aw_iconst (v := 0) C (dec D_Mod_isUsed rfl) (by decide) ?_
  refine aw_istore_n (i := 2) C (dec D_Mod_isUsed rfl) rfl (by decide) ?_
  refine aw_iconst (v := 0) C (dec D_Mod_isUsed rfl) (by decide) ?_
  refine aw_istore_n (i := 3) C (dec D_Mod_isUsed rfl) rfl (by decide) ?_
  exact lp1 9 0 0 (by omega) (by omega) rfl
theorem c_Mod_hold (l : Launch) (G : GG) (a : AD) (c : CC) (m : MM) (o : OO) (L : Nat → Nat) (hL : MLn m L) : CT l G y_Mod_hold (.code y_Mod_hold b_Mod_hold 2 none) 2 0 0 (Fyes G) (wld G a c m o) [.ref (a 30 0)] (fun r w2 => r = .inl none ∧ w2 = wld G a c (mHoldN m L 101) o) := by
  refine CT.of (by decide) (Nat.le_of_ble_eq_true rfl) rfl ?_
  intro E hl hG hF C r hw hex hnm
  subst hl; subst hG
  have Fw : Cw E := fun a h => by rw [hF]; exact h
  have lp : ∀ (n t : Nat) , 101 - t < n → t ≤ 101 → AW E false 0 0 (wld (eG E) a c (mHoldN m L t) o) 2 [(0, .ref (a 30 0)), (1, .int (nI t))] [] := by
    intro n
    induction n with
    | zero => intro t  h1 h2; omega
    | succ n ih =>
      intro t  h1t h2t
      refine aw_iload_n (i := 1) C (dec D_Mod_hold rfl) rfl rfl ?_
      refine aw_bipush (v := 101) C (dec D_Mod_hold rfl) (by decide) ?_
      refine aw_icmp_ge (tgt := 25) C (dec D_Mod_hold rfl) (by decide) (fun hb => ?_) (fun hb => ?_)
      · try simp only [mI_I, mL_I, mA_I, mJ_I, mI_L, mL_L, mA_L, mJ_L, mI_A, mL_A, mA_A, mJ_A, mI_J, mL_J, mA_J, mJ_J, cI_I, cL_I, cA_I, cJ_I, cR_I, cN_I, cI_L, cL_L, cA_L, cJ_L, cR_L, cN_L, cI_A, cL_A, cA_A, cJ_A, cR_A, cN_A, cI_J, cL_J, cA_J, cJ_J, cR_J, cN_J, cI_R, cL_R, cA_R, cJ_R, cR_R, cN_R, cI_N, cL_N, cA_N, cJ_N, cR_N, cN_N, ↓reduceIte, Nat.reduceEqDiff, upd_at, updL_at] at hb
        have e9 : t = 101 := by have := ix_ge (N := 101) hb; omega
        subst e9
        refine aw_ret_v C r (dec D_Mod_hold rfl) (by decide) (by decide) ?_
        exact ⟨rfl, rfl⟩
      · try simp only [mI_I, mL_I, mA_I, mJ_I, mI_L, mL_L, mA_L, mJ_L, mI_A, mL_A, mA_A, mJ_A, mI_J, mL_J, mA_J, mJ_J, cI_I, cL_I, cA_I, cJ_I, cR_I, cN_I, cI_L, cL_L, cA_L, cJ_L, cR_L, cN_L, cI_A, cL_A, cA_A, cJ_A, cR_A, cN_A, cI_J, cL_J, cA_J, cJ_J, cR_J, cN_J, cI_R, cL_R, cA_R, cJ_R, cR_R, cN_R, cI_N, cL_N, cA_N, cJ_N, cR_N, cN_N, ↓reduceIte, Nat.reduceEqDiff, upd_at, updL_at] at hb
        have htt : t < 101 := ix_lt (N := 101) hb
        refine aw_aload_n (i := 0) C (dec D_Mod_hold rfl) rfl rfl ?_
        refine gf_Mod_44 C (dec D_Mod_hold rfl) ?_
        refine aw_iload_n (i := 1) C (dec D_Mod_hold rfl) rfl rfl ?_
        refine aw_aload_n (i := 0) C (dec D_Mod_hold rfl) rfl rfl ?_
        refine aw_iload_n (i := 1) C (dec D_Mod_hold rfl) rfl rfl ?_
        refine aw_cv C ci_Mod_146 [_] (c_Mod_isUsed _ _ _ _ _ _ (nI t) L (hL.hold t)) (dec D_Mod_hold rfl) rcM rfl fpP (Nat.le_of_ble_eq_true rfl) (by decide) ⟨by decide, by decide⟩ (fun v w2 hp => ?_) (fun _ _ h => by cases h.1)
        obtain ⟨hv, rfl⟩ := hp
        cases hv
        refine as_M9 C Fw t (bI_bz _) (dec D_Mod_hold rfl) (ix_of htt) ?_
        refine aw_iinc C (dec D_Mod_hold rfl) rfl (nI_inc t) (by decide) ?_
        refine aw_goto (tgt := 2) C (dec D_Mod_hold rfl) (by decide) ?_
        exact ih (t + 1) (by omega) (by omega)
  refine aw_iconst (v := 0) C (dec D_Mod_hold rfl) (by decide) ?_
  refine aw_istore_n (i := 1) C (dec D_Mod_hold rfl) rfl (by decide) ?_
  exact AW.impure (lp 102 0 (by omega) (by omega))
theorem c_Mod_isFree (l : Launch) (G : GG) (a : AD) (c : CC) (m : MM) (o : OO) (p : Nat) (L : Nat → Nat) (hp1 : p < 101) (hL : MLn m L) : CT l G y_Mod_isFree (.code y_Mod_isFree b_Mod_isFree 2 (some .boolean)) 2 0 0 Fno (wld G a c m o) [.ref (a 30 0), .int (nI p)] (fun r w2 => r = .inl (some (.int (bI (mFree m L p)))) ∧ w2 = wld G a c m o) := by
  refine CT.of (by decide) (Nat.le_of_ble_eq_true rfl) rfl ?_
  intro E hl hG hF C r hw hex hnm
  subst hl; subst hG
  refine aw_iload_n (i := 1) C (dec D_Mod_isFree rfl) rfl rfl ?_
  refine aw_bipush (v := 39) C (dec D_Mod_isFree rfl) (by decide) ?_
  refine aw_icmp_le (tgt := 27) C (dec D_Mod_isFree rfl) (by decide) (fun h3 => ?_) (fun h3 => ?_)
  · try simp only [mI_I, mL_I, mA_I, mJ_I, mI_L, mL_L, mA_L, mJ_L, mI_A, mL_A, mA_A, mJ_A, mI_J, mL_J, mA_J, mJ_J, cI_I, cL_I, cA_I, cJ_I, cR_I, cN_I, cI_L, cL_L, cA_L, cJ_L, cR_L, cN_L, cI_A, cL_A, cA_A, cJ_A, cR_A, cN_A, cI_J, cL_J, cA_J, cJ_J, cR_J, cN_J, cI_R, cL_R, cA_R, cJ_R, cR_R, cN_R, cI_N, cL_N, cA_N, cJ_N, cR_N, cN_N, ↓reduceIte, Nat.reduceEqDiff, upd_at, updL_at] at h3
    refine aw_iconst (v := 0) C (dec D_Mod_isFree rfl) (by decide) ?_
    refine aw_ret_i C r (dec D_Mod_isFree rfl) rfl (by decide) (by decide) ?_
    refine ⟨?_, rfl⟩
    have e3 : ¬ 39 < p := by have := (nI_leI (a := p) (b := 39) (by omega) (by omega)).mp h3; omega
    simp [mFree, bI, e3]
  · try simp only [mI_I, mL_I, mA_I, mJ_I, mI_L, mL_L, mA_L, mJ_L, mI_A, mL_A, mA_A, mJ_A, mI_J, mL_J, mA_J, mJ_J, cI_I, cL_I, cA_I, cJ_I, cR_I, cN_I, cI_L, cL_L, cA_L, cJ_L, cR_L, cN_L, cI_A, cL_A, cA_A, cJ_A, cR_A, cN_A, cI_J, cL_J, cA_J, cJ_J, cR_J, cN_J, cI_R, cL_R, cA_R, cJ_R, cR_R, cN_R, cI_N, cL_N, cA_N, cJ_N, cR_N, cN_N, ↓reduceIte, Nat.reduceEqDiff, upd_at, updL_at] at h3
    refine aw_aload_n (i := 0) C (dec D_Mod_isFree rfl) rfl rfl ?_
    refine aw_iload_n (i := 1) C (dec D_Mod_isFree rfl) rfl rfl ?_
    refine aw_cv C ci_Mod_146 [_] (c_Mod_isUsed _ _ _ _ _ _ (nI p) L hL) (dec D_Mod_isFree rfl) rcM rfl fpP (Nat.le_of_ble_eq_true rfl) (by decide) ⟨by decide, by decide⟩ (fun v w2 hp => ?_) (fun _ _ h => by cases h.1)
    obtain ⟨hv, rfl⟩ := hp
    cases hv
    refine aw_if_ne (tgt := 27) C (dec D_Mod_isFree rfl) (by decide) (fun h11 => ?_) (fun h11 => ?_)
    · try simp only [mI_I, mL_I, mA_I, mJ_I, mI_L, mL_L, mA_L, mJ_L, mI_A, mL_A, mA_A, mJ_A, mI_J, mL_J, mA_J, mJ_J, cI_I, cL_I, cA_I, cJ_I, cR_I, cN_I, cI_L, cL_L, cA_L, cJ_L, cR_L, cN_L, cI_A, cL_A, cA_A, cJ_A, cR_A, cN_A, cI_J, cL_J, cA_J, cJ_J, cR_J, cN_J, cI_R, cL_R, cA_R, cJ_R, cR_R, cN_R, cI_N, cL_N, cA_N, cJ_N, cR_N, cN_N, ↓reduceIte, Nat.reduceEqDiff, upd_at, updL_at] at h11
      refine aw_iconst (v := 0) C (dec D_Mod_isFree rfl) (by decide) ?_
      refine aw_ret_i C r (dec D_Mod_isFree rfl) rfl (by decide) (by decide) ?_
      refine ⟨?_, rfl⟩
      have e3 : 39 < p := by have := mt (nI_leI (a := p) (b := 39) (by omega) (by omega)).mpr h3; omega
      have e11 := mt bI_0.mpr h11
      simp [mFree, bI, e3, e11]
    · try simp only [mI_I, mL_I, mA_I, mJ_I, mI_L, mL_L, mA_L, mJ_L, mI_A, mL_A, mA_A, mJ_A, mI_J, mL_J, mA_J, mJ_J, cI_I, cL_I, cA_I, cJ_I, cR_I, cN_I, cI_L, cL_L, cA_L, cJ_L, cR_L, cN_L, cI_A, cL_A, cA_A, cJ_A, cR_A, cN_A, cI_J, cL_J, cA_J, cJ_J, cR_J, cN_J, cI_R, cL_R, cA_R, cJ_R, cR_R, cN_R, cI_N, cL_N, cA_N, cJ_N, cR_N, cN_N, ↓reduceIte, Nat.reduceEqDiff, upd_at, updL_at] at h11
      refine aw_aload_n (i := 0) C (dec D_Mod_isFree rfl) rfl rfl ?_
      refine gf_Mod_44 C (dec D_Mod_isFree rfl) ?_
      refine aw_iload_n (i := 1) C (dec D_Mod_isFree rfl) rfl rfl ?_
      refine al_M9 C p (dec D_Mod_isFree rfl) (ix_of hp1) ?_
      refine aw_if_ne (tgt := 27) C (dec D_Mod_isFree rfl) (by decide) (fun h20 => ?_) (fun h20 => ?_)
      · try simp only [mI_I, mL_I, mA_I, mJ_I, mI_L, mL_L, mA_L, mJ_L, mI_A, mL_A, mA_A, mJ_A, mI_J, mL_J, mA_J, mJ_J, cI_I, cL_I, cA_I, cJ_I, cR_I, cN_I, cI_L, cL_L, cA_L, cJ_L, cR_L, cN_L, cI_A, cL_A, cA_A, cJ_A, cR_A, cN_A, cI_J, cL_J, cA_J, cJ_J, cR_J, cN_J, cI_R, cL_R, cA_R, cJ_R, cR_R, cN_R, cI_N, cL_N, cA_N, cJ_N, cR_N, cN_N, ↓reduceIte, Nat.reduceEqDiff, upd_at, updL_at] at h20
        refine aw_iconst (v := 0) C (dec D_Mod_isFree rfl) (by decide) ?_
        refine aw_ret_i C r (dec D_Mod_isFree rfl) rfl (by decide) (by decide) ?_
        refine ⟨?_, rfl⟩
        have e3 : 39 < p := by have := mt (nI_leI (a := p) (b := 39) (by omega) (by omega)).mpr h3; omega
        have e11 := bI_0.mp h11
        simp [mFree, bI, e3, e11, h20]
      · try simp only [mI_I, mL_I, mA_I, mJ_I, mI_L, mL_L, mA_L, mJ_L, mI_A, mL_A, mA_A, mJ_A, mI_J, mL_J, mA_J, mJ_J, cI_I, cL_I, cA_I, cJ_I, cR_I, cN_I, cI_L, cL_L, cA_L, cJ_L, cR_L, cN_L, cI_A, cL_A, cA_A, cJ_A, cR_A, cN_A, cI_J, cL_J, cA_J, cJ_J, cR_J, cN_J, cI_R, cL_R, cA_R, cJ_R, cR_R, cN_R, cI_N, cL_N, cA_N, cJ_N, cR_N, cN_N, ↓reduceIte, Nat.reduceEqDiff, upd_at, updL_at] at h20
        refine aw_iconst (v := 1) C (dec D_Mod_isFree rfl) (by decide) ?_
        refine aw_goto (tgt := 28) C (dec D_Mod_isFree rfl) (by decide) ?_
        refine aw_ret_i C r (dec D_Mod_isFree rfl) rfl (by decide) (by decide) ?_
        refine ⟨?_, rfl⟩
        have e3 : 39 < p := by have := mt (nI_leI (a := p) (b := 39) (by omega) (by omega)).mpr h3; omega
        have e11 := bI_0.mp h11
        simp [mFree, bI, e3, e11, h20]
theorem c_Mod_leastFree (l : Launch) (G : GG) (a : AD) (c : CC) (m : MM) (o : OO) (L : Nat → Nat) (hL : MLn m L) : CT l G y_Mod_leastFree (.code y_Mod_leastFree b_Mod_leastFree 2 (some .int)) 3 0 0 Fno (wld G a c m o) [.ref (a 30 0)] (fun r w2 => r = .inl (some (.int (mLeast m L 61 40))) ∧ w2 = wld G a c m o) := by
  refine CT.of (by decide) (Nat.le_of_ble_eq_true rfl) rfl ?_
  intro E hl hG hF C r hw hex hnm
  subst hl; subst hG
  have lp : ∀ (n t : Nat) , 101 - t < n → t ≤ 101 → 40 ≤ t → mLeast m L 61 40 = mLeast m L (101 - t) t → AW E true 0 0 (wld (eG E) a c m o) 3 [(0, .ref (a 30 0)), (1, .int (nI t))] [] := by
    intro n
    induction n with
    | zero => intro t  h1 h2 h0 hx; omega
    | succ n ih =>
      intro t  h1t h2t h0t hx
      refine aw_iload_n (i := 1) C (dec D_Mod_leastFree rfl) rfl rfl ?_
      refine aw_bipush (v := 101) C (dec D_Mod_leastFree rfl) (by decide) ?_
      refine aw_icmp_ge (tgt := 25) C (dec D_Mod_leastFree rfl) (by decide) (fun hb => ?_) (fun hb => ?_)
      · try simp only [mI_I, mL_I, mA_I, mJ_I, mI_L, mL_L, mA_L, mJ_L, mI_A, mL_A, mA_A, mJ_A, mI_J, mL_J, mA_J, mJ_J, cI_I, cL_I, cA_I, cJ_I, cR_I, cN_I, cI_L, cL_L, cA_L, cJ_L, cR_L, cN_L, cI_A, cL_A, cA_A, cJ_A, cR_A, cN_A, cI_J, cL_J, cA_J, cJ_J, cR_J, cN_J, cI_R, cL_R, cA_R, cJ_R, cR_R, cN_R, cI_N, cL_N, cA_N, cJ_N, cR_N, cN_N, ↓reduceIte, Nat.reduceEqDiff, upd_at, updL_at] at hb
        have e9 : t = 101 := by have := ix_ge (N := 101) hb; omega
        subst e9
        refine aw_iconst (v := (-1)) C (dec D_Mod_leastFree rfl) (by decide) ?_
        refine aw_ret_i C r (dec D_Mod_leastFree rfl) rfl (by decide) (by decide) ?_
        exact ⟨by rw [hx]; rfl, rfl⟩
      · try simp only [mI_I, mL_I, mA_I, mJ_I, mI_L, mL_L, mA_L, mJ_L, mI_A, mL_A, mA_A, mJ_A, mI_J, mL_J, mA_J, mJ_J, cI_I, cL_I, cA_I, cJ_I, cR_I, cN_I, cI_L, cL_L, cA_L, cJ_L, cR_L, cN_L, cI_A, cL_A, cA_A, cJ_A, cR_A, cN_A, cI_J, cL_J, cA_J, cJ_J, cR_J, cN_J, cI_R, cL_R, cA_R, cJ_R, cR_R, cN_R, cI_N, cL_N, cA_N, cJ_N, cR_N, cN_N, ↓reduceIte, Nat.reduceEqDiff, upd_at, updL_at] at hb
        have htt : t < 101 := ix_lt (N := 101) hb
        refine aw_aload_n (i := 0) C (dec D_Mod_leastFree rfl) rfl rfl ?_
        refine aw_iload_n (i := 1) C (dec D_Mod_leastFree rfl) rfl rfl ?_
        refine aw_cv C ci_Mod_173 [_] (c_Mod_isFree _ _ _ _ _ _ t L (by omega) hL) (dec D_Mod_leastFree rfl) rcM rfl fpP (Nat.le_of_ble_eq_true rfl) (by decide) ⟨by decide, by decide⟩ (fun v w2 hp => ?_) (fun _ _ h => by cases h.1)
        obtain ⟨hv, rfl⟩ := hp
        cases hv
        refine aw_if_eq (tgt := 19) C (dec D_Mod_leastFree rfl) (by decide) (fun h14 => ?_) (fun h14 => ?_)
        · try simp only [mI_I, mL_I, mA_I, mJ_I, mI_L, mL_L, mA_L, mJ_L, mI_A, mL_A, mA_A, mJ_A, mI_J, mL_J, mA_J, mJ_J, cI_I, cL_I, cA_I, cJ_I, cR_I, cN_I, cI_L, cL_L, cA_L, cJ_L, cR_L, cN_L, cI_A, cL_A, cA_A, cJ_A, cR_A, cN_A, cI_J, cL_J, cA_J, cJ_J, cR_J, cN_J, cI_R, cL_R, cA_R, cJ_R, cR_R, cN_R, cI_N, cL_N, cA_N, cJ_N, cR_N, cN_N, ↓reduceIte, Nat.reduceEqDiff, upd_at, updL_at] at h14
          refine aw_iinc C (dec D_Mod_leastFree rfl) rfl (nI_inc t) (by decide) ?_
          refine aw_goto (tgt := 3) C (dec D_Mod_leastFree rfl) (by decide) ?_
          exact ih (t + 1) (by omega) (by omega) (by omega) (by rw [hx, show 101 - t = 100 - t + 1 by omega, mLeast, if_neg (by rw [bI_0.mp h14]; decide), show 100 - t = 101 - (t + 1) by omega])
        · try simp only [mI_I, mL_I, mA_I, mJ_I, mI_L, mL_L, mA_L, mJ_L, mI_A, mL_A, mA_A, mJ_A, mI_J, mL_J, mA_J, mJ_J, cI_I, cL_I, cA_I, cJ_I, cR_I, cN_I, cI_L, cL_L, cA_L, cJ_L, cR_L, cN_L, cI_A, cL_A, cA_A, cJ_A, cR_A, cN_A, cI_J, cL_J, cA_J, cJ_J, cR_J, cN_J, cI_R, cL_R, cA_R, cJ_R, cR_R, cN_R, cI_N, cL_N, cA_N, cJ_N, cR_N, cN_N, ↓reduceIte, Nat.reduceEqDiff, upd_at, updL_at] at h14
          refine aw_iload_n (i := 1) C (dec D_Mod_leastFree rfl) rfl rfl ?_
          refine aw_ret_i C r (dec D_Mod_leastFree rfl) rfl (by decide) (by decide) ?_
          exact ⟨by rw [hx, show 101 - t = 100 - t + 1 by omega, mLeast, if_pos (by have z := mt bI_0.mpr h14; simpa using z)], rfl⟩
  refine aw_bipush (v := 40) C (dec D_Mod_leastFree rfl) (by decide) ?_
  refine aw_istore_n (i := 1) C (dec D_Mod_leastFree rfl) rfl (by decide) ?_
  exact lp 62 40 (by omega) (by omega) (by omega) rfl
