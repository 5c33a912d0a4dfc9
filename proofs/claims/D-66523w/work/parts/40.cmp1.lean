/-! the component: small methods; printed by tools/m40.py -/
theorem c_Box_want1 (l : Launch) (G : GG) (a : AD) (c : CC) (m : MM) (o : OO) (x : Int32) (hx : ¬ x = 0) : CT l G y_Box_want (.code y_Box_want b_Box_want 1 none) 0 0 0 Fno (wld G a c m o) [.int x] (fun r w2 => r = .inl none ∧ w2 = wld G a c m o) := by
  refine CT.of (by decide) (Nat.le_of_ble_eq_true rfl) rfl ?_
  intro E hl hG hF C r hw hex hnm
  subst hl; subst hG
  refine aw_iload_n (i := 0) C (dec D_Box_want rfl) rfl rfl ?_
  refine aw_if_ne (tgt := 12) C (dec D_Box_want rfl) (by decide) (fun h1 => ?_) (fun h1 => ?_)
  · try simp only [mI_I, mL_I, mA_I, mJ_I, mI_L, mL_L, mA_L, mJ_L, mI_A, mL_A, mA_A, mJ_A, mI_J, mL_J, mA_J, mJ_J, cI_I, cL_I, cA_I, cJ_I, cR_I, cN_I, cI_L, cL_L, cA_L, cJ_L, cR_L, cN_L, cI_A, cL_A, cA_A, cJ_A, cR_A, cN_A, cI_J, cL_J, cA_J, cJ_J, cR_J, cN_J, cI_R, cL_R, cA_R, cJ_R, cR_R, cN_R, cI_N, cL_N, cA_N, cJ_N, cR_N, cN_N, ↓reduceIte, Nat.reduceEqDiff, upd_at, updL_at] at h1
    refine aw_ret_v C r (dec D_Box_want rfl) (by decide) (by decide) ?_
    exact ⟨rfl, rfl⟩
  · try simp only [mI_I, mL_I, mA_I, mJ_I, mI_L, mL_L, mA_L, mJ_L, mI_A, mL_A, mA_A, mJ_A, mI_J, mL_J, mA_J, mJ_J, cI_I, cL_I, cA_I, cJ_I, cR_I, cN_I, cI_L, cL_L, cA_L, cJ_L, cR_L, cN_L, cI_A, cL_A, cA_A, cJ_A, cR_A, cN_A, cI_J, cL_J, cA_J, cJ_J, cR_J, cN_J, cI_R, cL_R, cA_R, cJ_R, cR_R, cN_R, cI_N, cL_N, cA_N, cJ_N, cR_N, cN_N, ↓reduceIte, Nat.reduceEqDiff, upd_at, updL_at] at h1
    exact absurd h1 hx
theorem c_Box_want0 (l : Launch) (G : GG) (a : AD) (c : CC) (m : MM) (o : OO)   : CT l G y_Box_want (.code y_Box_want b_Box_want 1 none) 6 1 6 Fno (wld G a c m o) [.int 0] (fun r w2 => r = .inr 0 ∧ w2 = wld G a c m o) := by
  refine CT.of (by decide) (Nat.le_of_ble_eq_true rfl) rfl ?_
  intro E hl hG hF C r hw hex hnm
  subst hl; subst hG
  refine aw_iload_n (i := 0) C (dec D_Box_want rfl) rfl rfl ?_
  refine aw_if_ne (tgt := 12) C (dec D_Box_want rfl) (by decide) (fun h_ => absurd (show (0 : Int32) = (0 : Int32) by decide) h_) (fun _ => ?_)
  exact aw_throw C r hex hw xi_0 (dec D_Box_want rfl) (dec D_Box_want rfl) (dec D_Box_want rfl) (dec D_Box_want rfl) (by decide) (by decide) (by decide) (by decide) ⟨rfl, rfl⟩
theorem c_Box_argue1 (l : Launch) (G : GG) (a : AD) (c : CC) (m : MM) (o : OO) (x : Int32) (hx : ¬ x = 0) : CT l G y_Box_argue (.code y_Box_argue b_Box_argue 1 none) 0 0 0 Fno (wld G a c m o) [.int x] (fun r w2 => r = .inl none ∧ w2 = wld G a c m o) := by
  refine CT.of (by decide) (Nat.le_of_ble_eq_true rfl) rfl ?_
  intro E hl hG hF C r hw hex hnm
  subst hl; subst hG
  refine aw_iload_n (i := 0) C (dec D_Box_argue rfl) rfl rfl ?_
  refine aw_if_ne (tgt := 12) C (dec D_Box_argue rfl) (by decide) (fun h1 => ?_) (fun h1 => ?_)
  · try simp only [mI_I, mL_I, mA_I, mJ_I, mI_L, mL_L, mA_L, mJ_L, mI_A, mL_A, mA_A, mJ_A, mI_J, mL_J, mA_J, mJ_J, cI_I, cL_I, cA_I, cJ_I, cR_I, cN_I, cI_L, cL_L, cA_L, cJ_L, cR_L, cN_L, cI_A, cL_A, cA_A, cJ_A, cR_A, cN_A, cI_J, cL_J, cA_J, cJ_J, cR_J, cN_J, cI_R, cL_R, cA_R, cJ_R, cR_R, cN_R, cI_N, cL_N, cA_N, cJ_N, cR_N, cN_N, ↓reduceIte, Nat.reduceEqDiff, upd_at, updL_at] at h1
    refine aw_ret_v C r (dec D_Box_argue rfl) (by decide) (by decide) ?_
    exact ⟨rfl, rfl⟩
  · try simp only [mI_I, mL_I, mA_I, mJ_I, mI_L, mL_L, mA_L, mJ_L, mI_A, mL_A, mA_A, mJ_A, mI_J, mL_J, mA_J, mJ_J, cI_I, cL_I, cA_I, cJ_I, cR_I, cN_I, cI_L, cL_L, cA_L, cJ_L, cR_L, cN_L, cI_A, cL_A, cA_A, cJ_A, cR_A, cN_A, cI_J, cL_J, cA_J, cJ_J, cR_J, cN_J, cI_R, cL_R, cA_R, cJ_R, cR_R, cN_R, cI_N, cL_N, cA_N, cJ_N, cR_N, cN_N, ↓reduceIte, Nat.reduceEqDiff, upd_at, updL_at] at h1
    exact absurd h1 hx
theorem c_Box_argue0 (l : Launch) (G : GG) (a : AD) (c : CC) (m : MM) (o : OO)   : CT l G y_Box_argue (.code y_Box_argue b_Box_argue 1 none) 6 1 6 Fno (wld G a c m o) [.int 0] (fun r w2 => r = .inr 1 ∧ w2 = wld G a c m o) := by
  refine CT.of (by decide) (Nat.le_of_ble_eq_true rfl) rfl ?_
  intro E hl hG hF C r hw hex hnm
  subst hl; subst hG
  refine aw_iload_n (i := 0) C (dec D_Box_argue rfl) rfl rfl ?_
  refine aw_if_ne (tgt := 12) C (dec D_Box_argue rfl) (by decide) (fun h_ => absurd (show (0 : Int32) = (0 : Int32) by decide) h_) (fun _ => ?_)
  exact aw_throw C r hex hw xi_1 (dec D_Box_argue rfl) (dec D_Box_argue rfl) (dec D_Box_argue rfl) (dec D_Box_argue rfl) (by decide) (by decide) (by decide) (by decide) ⟨rfl, rfl⟩
def wth (x lo hi : Int32) : Int32 := if x < lo then 0 else if hi < x then 0 else 1
/-- a bit of a loop -/
def ush (x : Int64) (n : Int32) : Int64 := (x.toUInt64 >>> (n.toInt64.toUInt64 &&& Int64.toUInt64 63)).toInt64
def lGet (g : Nat → Int64) (p : Nat) : Int32 := (ush (g (p / 64)) (nI p)).toInt32 &&& 1
def lSet (g : Nat → Int64) (p : Nat) (x : Int32) : Nat → Int64 := vp_updL g (p / 64) ((g (p / 64) &&& ((1 <<< ((nI p).toInt64 &&& 63)) ^^^ -1)) ||| (x.toInt64 <<< ((nI p).toInt64 &&& 63)))
theorem nI_shr6 {p : Nat} (h : p < 101) : nI p >>> (6 &&& 31) = nI (p / 64) := by
  by_cases h1 : p < 64
  · rw [show p / 64 = 0 by omega]
    have : ∀ q : Fin 64, nI q.1 >>> (6 &&& 31) = nI 0 := by decide +kernel
    exact this ⟨p, h1⟩
  · rw [show p / 64 = 1 by omega]
    have : ∀ q : Fin 37, nI (64 + q.1) >>> (6 &&& 31) = nI 1 := by decide +kernel
    have z := this ⟨p - 64, by omega⟩
    rw [show 64 + (p - 64) = p by omega] at z; exact z
def cTurn (c : CC) (x : Int32) : CC := sI (sL c 0 0 (cL c 0 0 + (if 0 ≤ x - cI c 2 0 then x - cI c 2 0 else x - cI c 2 0 + 101).toInt64)) 2 0 x
def cFar (c : CC) (x : Int32) : Int32 := if cI c 2 0 ≤ x then x - cI c 2 0 else x - cI c 2 0 + 101
theorem rcC {G : GG} {a : AD} {c : CC} {m : MM} {o : OO} : Rcv (wld G a c m o) (a 1 0) "BubbleBox$Chip" := ⟨1, 0, 1, _, _, cC_at (by decide) Nat.one_pos rfl, rfl, rfl⟩
theorem rcT {G : GG} {a : AD} {c : CC} {m : MM} {o : OO} : Rcv (wld G a c m o) (a 2 0) "BubbleBox$Controller" := ⟨2, 0, 2, _, _, cC_at (by decide) Nat.one_pos rfl, rfl, rfl⟩
theorem rcD {G : GG} {a : AD} {c : CC} {m : MM} {o : OO} : Rcv (wld G a c m o) (a 3 0) "BubbleBox$Directory" := ⟨3, 0, 3, _, _, cC_at (by decide) Nat.one_pos rfl, rfl, rfl⟩
theorem rcB {G : GG} {a : AD} {c : CC} {m : MM} {o : OO} : Rcv (wld G a c m o) (a 0 0) "BubbleBox" := ⟨0, 0, 0, _, _, cC_at (by decide) Nat.one_pos rfl, rfl, rfl⟩
theorem rcW {G : GG} {a : AD} {c : CC} {m : MM} {o : OO} {j : Nat} (hj : j < cN c 17 0) : Rcv (wld G a c m o) (a 18 j) "BubbleBox$Window" := ⟨18, j, 8, _, _, cC_at (by decide) hj rfl, rfl, rfl⟩
theorem rcF {G : GG} {a : AD} {c : CC} {m : MM} {o : OO} {j : Nat} (hj : j < cN c 17 0) : Rcv (wld G a c m o) (a 17 j) "BubbleBox$StoredFile" := ⟨17, j, 7, _, _, cC_at (by decide) hj rfl, rfl, rfl⟩
theorem rcI {G : GG} {a : AD} {c : CC} {m : MM} {o : OO} {j : Nat} (hj : j < 2) : Rcv (wld G a c m o) (a 11 j) "BubbleBox$Image" := ⟨11, j, 4, _, _, cC_at (by decide) hj rfl, rfl, rfl⟩
theorem rcA {G : GG} {a : AD} {c : CC} {m : MM} {o : OO} {j : Nat} (hj : j < 2) : Rcv (wld G a c m o) (a 13 j) "java/util/ArrayList" := ⟨13, j, 10, _, _, cC_at (by decide) hj rfl, rfl, rfl⟩
theorem rcL {G : GG} {a : AD} {c : CC} {m : MM} {o : OO} {j : Nat} (hj : j < cN c 15 0) (h : cN c 16 j = 0) : Rcv (wld G a c m o) (a 15 j) "BubbleBox$Loop" := ⟨15, j, 5, _, _, cC_at (by decide) hj (by simp [celC, h]; rfl), rfl, rfl⟩
theorem rcS {G : GG} {a : AD} {c : CC} {m : MM} {o : OO} {j : Nat} (hj : j < cN c 15 0) (h : ¬ cN c 16 j = 0) : Rcv (wld G a c m o) (a 15 j) "BubbleBox$StuckLoop" := ⟨15, j, 6, _, _, cC_at (by decide) hj (by simp [celC, h]; rfl), rfl, rfl⟩
theorem c_Box_within (l : Launch) (G : GG) (a : AD) (c : CC) (m : MM) (o : OO) (x y z : Int32)  : CT l G y_Box_within (.code y_Box_within b_Box_within 3 (some .boolean)) 0 0 0 Fno (wld G a c m o) [.int x, .int y, .int z] (fun r w2 => r = .inl (some (.int (wth x y z))) ∧ w2 = wld G a c m o) := by
  refine CT.of (by decide) (Nat.le_of_ble_eq_true rfl) rfl ?_
  intro E hl hG hF C r hw hex hnm
  subst hl; subst hG
  refine aw_iload_n (i := 0) C (dec D_Box_within rfl) rfl rfl ?_
  refine aw_iload_n (i := 1) C (dec D_Box_within rfl) rfl rfl ?_
  refine aw_icmp_lt (tgt := 14) C (dec D_Box_within rfl) (by decide) (fun h2 => ?_) (fun h2 => ?_)
  · try simp only [mI_I, mL_I, mA_I, mJ_I, mI_L, mL_L, mA_L, mJ_L, mI_A, mL_A, mA_A, mJ_A, mI_J, mL_J, mA_J, mJ_J, cI_I, cL_I, cA_I, cJ_I, cR_I, cN_I, cI_L, cL_L, cA_L, cJ_L, cR_L, cN_L, cI_A, cL_A, cA_A, cJ_A, cR_A, cN_A, cI_J, cL_J, cA_J, cJ_J, cR_J, cN_J, cI_R, cL_R, cA_R, cJ_R, cR_R, cN_R, cI_N, cL_N, cA_N, cJ_N, cR_N, cN_N, ↓reduceIte, Nat.reduceEqDiff, upd_at, updL_at] at h2
    refine aw_iconst (v := 0) C (dec D_Box_within rfl) (by decide) ?_
    refine aw_ret_i C r (dec D_Box_within rfl) rfl (by decide) (by decide) ?_
    refine ⟨?_, ?_⟩ <;> first | with_reducible rfl | (simp [mI_I, mL_I, mA_I, mJ_I, mI_L, mL_L, mA_L, mJ_L, mI_A, mL_A, mA_A, mJ_A, mI_J, mL_J, mA_J, mJ_J, cI_I, cL_I, cA_I, cJ_I, cR_I, cN_I, cI_L, cL_L, cA_L, cJ_L, cR_L, cN_L, cI_A, cL_A, cA_A, cJ_A, cR_A, cN_A, cI_J, cL_J, cA_J, cJ_J, cR_J, cN_J, cI_R, cL_R, cA_R, cJ_R, cR_R, cN_R, cI_N, cL_N, cA_N, cJ_N, cR_N, cN_N, ↓reduceIte, Nat.reduceEqDiff, upd_at, updL_at, h2, wth]; done) | (simp [mI_I, mL_I, mA_I, mJ_I, mI_L, mL_L, mA_L, mJ_L, mI_A, mL_A, mA_A, mJ_A, mI_J, mL_J, mA_J, mJ_J, cI_I, cL_I, cA_I, cJ_I, cR_I, cN_I, cI_L, cL_L, cA_L, cJ_L, cR_L, cN_L, cI_A, cL_A, cA_A, cJ_A, cR_A, cN_A, cI_J, cL_J, cA_J, cJ_J, cR_J, cN_J, cI_R, cL_R, cA_R, cJ_R, cR_R, cN_R, cI_N, cL_N, cA_N, cJ_N, cR_N, cN_N, ↓reduceIte, Nat.reduceEqDiff, upd_at, updL_at, h2, wth]; rfl)
  · try simp only [mI_I, mL_I, mA_I, mJ_I, mI_L, mL_L, mA_L, mJ_L, mI_A, mL_A, mA_A, mJ_A, mI_J, mL_J, mA_J, mJ_J, cI_I, cL_I, cA_I, cJ_I, cR_I, cN_I, cI_L, cL_L, cA_L, cJ_L, cR_L, cN_L, cI_A, cL_A, cA_A, cJ_A, cR_A, cN_A, cI_J, cL_J, cA_J, cJ_J, cR_J, cN_J, cI_R, cL_R, cA_R, cJ_R, cR_R, cN_R, cI_N, cL_N, cA_N, cJ_N, cR_N, cN_N, ↓reduceIte, Nat.reduceEqDiff, upd_at, updL_at] at h2
    refine aw_iload_n (i := 0) C (dec D_Box_within rfl) rfl rfl ?_
    refine aw_iload_n (i := 2) C (dec D_Box_within rfl) rfl rfl ?_
    refine aw_icmp_gt (tgt := 14) C (dec D_Box_within rfl) (by decide) (fun h7 => ?_) (fun h7 => ?_)
    · try simp only [mI_I, mL_I, mA_I, mJ_I, mI_L, mL_L, mA_L, mJ_L, mI_A, mL_A, mA_A, mJ_A, mI_J, mL_J, mA_J, mJ_J, cI_I, cL_I, cA_I, cJ_I, cR_I, cN_I, cI_L, cL_L, cA_L, cJ_L, cR_L, cN_L, cI_A, cL_A, cA_A, cJ_A, cR_A, cN_A, cI_J, cL_J, cA_J, cJ_J, cR_J, cN_J, cI_R, cL_R, cA_R, cJ_R, cR_R, cN_R, cI_N, cL_N, cA_N, cJ_N, cR_N, cN_N, ↓reduceIte, Nat.reduceEqDiff, upd_at, updL_at] at h7
      refine aw_iconst (v := 0) C (dec D_Box_within rfl) (by decide) ?_
      refine aw_ret_i C r (dec D_Box_within rfl) rfl (by decide) (by decide) ?_
      refine ⟨?_, ?_⟩ <;> first | with_reducible rfl | (simp [mI_I, mL_I, mA_I, mJ_I, mI_L, mL_L, mA_L, mJ_L, mI_A, mL_A, mA_A, mJ_A, mI_J, mL_J, mA_J, mJ_J, cI_I, cL_I, cA_I, cJ_I, cR_I, cN_I, cI_L, cL_L, cA_L, cJ_L, cR_L, cN_L, cI_A, cL_A, cA_A, cJ_A, cR_A, cN_A, cI_J, cL_J, cA_J, cJ_J, cR_J, cN_J, cI_R, cL_R, cA_R, cJ_R, cR_R, cN_R, cI_N, cL_N, cA_N, cJ_N, cR_N, cN_N, ↓reduceIte, Nat.reduceEqDiff, upd_at, updL_at, h2, h7, wth]; done) | (simp [mI_I, mL_I, mA_I, mJ_I, mI_L, mL_L, mA_L, mJ_L, mI_A, mL_A, mA_A, mJ_A, mI_J, mL_J, mA_J, mJ_J, cI_I, cL_I, cA_I, cJ_I, cR_I, cN_I, cI_L, cL_L, cA_L, cJ_L, cR_L, cN_L, cI_A, cL_A, cA_A, cJ_A, cR_A, cN_A, cI_J, cL_J, cA_J, cJ_J, cR_J, cN_J, cI_R, cL_R, cA_R, cJ_R, cR_R, cN_R, cI_N, cL_N, cA_N, cJ_N, cR_N, cN_N, ↓reduceIte, Nat.reduceEqDiff, upd_at, updL_at, h2, h7, wth]; rfl)
    · try simp only [mI_I, mL_I, mA_I, mJ_I, mI_L, mL_L, mA_L, mJ_L, mI_A, mL_A, mA_A, mJ_A, mI_J, mL_J, mA_J, mJ_J, cI_I, cL_I, cA_I, cJ_I, cR_I, cN_I, cI_L, cL_L, cA_L, cJ_L, cR_L, cN_L, cI_A, cL_A, cA_A, cJ_A, cR_A, cN_A, cI_J, cL_J, cA_J, cJ_J, cR_J, cN_J, cI_R, cL_R, cA_R, cJ_R, cR_R, cN_R, cI_N, cL_N, cA_N, cJ_N, cR_N, cN_N, ↓reduceIte, Nat.reduceEqDiff, upd_at, updL_at] at h7
      refine aw_iconst (v := 1) C (dec D_Box_within rfl) (by decide) ?_
      refine aw_goto (tgt := 15) C (dec D_Box_within rfl) (by decide) ?_
      refine aw_ret_i C r (dec D_Box_within rfl) rfl (by decide) (by decide) ?_
      refine ⟨?_, ?_⟩ <;> first | with_reducible rfl | (simp [mI_I, mL_I, mA_I, mJ_I, mI_L, mL_L, mA_L, mJ_L, mI_A, mL_A, mA_A, mJ_A, mI_J, mL_J, mA_J, mJ_J, cI_I, cL_I, cA_I, cJ_I, cR_I, cN_I, cI_L, cL_L, cA_L, cJ_L, cR_L, cN_L, cI_A, cL_A, cA_A, cJ_A, cR_A, cN_A, cI_J, cL_J, cA_J, cJ_J, cR_J, cN_J, cI_R, cL_R, cA_R, cJ_R, cR_R, cN_R, cI_N, cL_N, cA_N, cJ_N, cR_N, cN_N, ↓reduceIte, Nat.reduceEqDiff, upd_at, updL_at, h2, h7, wth]; done) | (simp [mI_I, mL_I, mA_I, mJ_I, mI_L, mL_L, mA_L, mJ_L, mI_A, mL_A, mA_A, mJ_A, mI_J, mL_J, mA_J, mJ_J, cI_I, cL_I, cA_I, cJ_I, cR_I, cN_I, cI_L, cL_L, cA_L, cJ_L, cR_L, cN_L, cI_A, cL_A, cA_A, cJ_A, cR_A, cN_A, cI_J, cL_J, cA_J, cJ_J, cR_J, cN_J, cI_R, cL_R, cA_R, cJ_R, cR_R, cN_R, cI_N, cL_N, cA_N, cJ_N, cR_N, cN_N, ↓reduceIte, Nat.reduceEqDiff, upd_at, updL_at, h2, h7, wth]; rfl)
theorem c_Loop_get (l : Launch) (G : GG) (a : AD) (c : CC) (m : MM) (o : OO) (j p : Nat) (hj : j < cN c 15 0) (hp1 : p < 101) : CT l G y_Loop_get (.code y_Loop_get b_Loop_get 2 (some .int)) 0 0 0 Fno (wld G a c m o) [.ref (a 15 j), .int (nI p)] (fun r w2 => r = .inl (some (.int (lGet (cJ c 16 j) p))) ∧ w2 = wld G a c m o) := by
  refine CT.of (by decide) (Nat.le_of_ble_eq_true rfl) rfl ?_
  intro E hl hG hF C r hw hex hnm
  subst hl; subst hG
  refine aw_aload_n (i := 0) C (dec D_Loop_get rfl) rfl rfl ?_
  refine gf_Loop_7 C hj (dec D_Loop_get rfl) ?_
  refine aw_iload_n (i := 1) C (dec D_Loop_get rfl) rfl rfl ?_
  refine aw_bipush (v := 6) C (dec D_Loop_get rfl) (by decide) ?_
  refine aw_ishr C (dec D_Loop_get rfl) ?_
  rw [nI_shr6 hp1]
  refine al_C16 C hj (p / 64) (dec D_Loop_get rfl) (ix_of (by omega)) ?_
  refine aw_iload_n (i := 1) C (dec D_Loop_get rfl) rfl rfl ?_
  refine aw_lushr C (dec D_Loop_get rfl) ?_
  refine aw_l2i C (dec D_Loop_get rfl) ?_
  refine aw_iconst (v := 1) C (dec D_Loop_get rfl) (by decide) ?_
  refine aw_iand C (dec D_Loop_get rfl) ?_
  refine aw_ret_i C r (dec D_Loop_get rfl) rfl (by decide) (by decide) ?_
  exact ⟨rfl, rfl⟩
theorem c_Loop_set (l : Launch) (G : GG) (a : AD) (c : CC) (m : MM) (o : OO) (j p : Nat) (x : Int32) (hj : j < cN c 15 0) (hp1 : p < 101) : CT l G y_Loop_set (.code y_Loop_set b_Loop_set 3 none) 0 0 0 (Fyes G) (wld G a c m o) [.ref (a 15 j), .int (nI p), .int x] (fun r w2 => r = .inl none ∧ w2 = wld G a (sJ c 16 j (lSet (cJ c 16 j) p x)) m o) := by
  refine CT.of (by decide) (Nat.le_of_ble_eq_true rfl) rfl ?_
  intro E hl hG hF C r hw hex hnm
  subst hl; subst hG
  have Fw : Cw E := fun a h => by rw [hF]; exact h
  refine aw_aload_n (i := 0) C (dec D_Loop_set rfl) rfl rfl ?_
  refine gf_Loop_7 C hj (dec D_Loop_set rfl) ?_
  refine aw_iload_n (i := 1) C (dec D_Loop_set rfl) rfl rfl ?_
  refine aw_bipush (v := 6) C (dec D_Loop_set rfl) (by decide) ?_
  refine aw_ishr C (dec D_Loop_set rfl) ?_
  rw [nI_shr6 hp1]
  refine aw_aload_n (i := 0) C (dec D_Loop_set rfl) rfl rfl ?_
  refine gf_Loop_7 C hj (dec D_Loop_set rfl) ?_
  refine aw_iload_n (i := 1) C (dec D_Loop_set rfl) rfl rfl ?_
  refine aw_bipush (v := 6) C (dec D_Loop_set rfl) (by decide) ?_
  refine aw_ishr C (dec D_Loop_set rfl) ?_
  rw [nI_shr6 hp1]
  refine al_C16 C hj (p / 64) (dec D_Loop_set rfl) (ix_of (by omega)) ?_
  refine aw_lconst (v := 1) C (dec D_Loop_set rfl) (by decide) ?_
  refine aw_iload_n (i := 1) C (dec D_Loop_set rfl) rfl rfl ?_
  refine aw_lshl C (dec D_Loop_set rfl) ?_
  refine aw_ldc2 (v := (-1)) C (dec D_Loop_set rfl) (List.mem_of_getElem? (i := 493) (by decide +kernel)) ?_
  refine aw_lxor C (dec D_Loop_set rfl) ?_
  refine aw_land C (dec D_Loop_set rfl) ?_
  refine aw_iload_n (i := 2) C (dec D_Loop_set rfl) rfl rfl ?_
  refine aw_i2l C (dec D_Loop_set rfl) ?_
  refine aw_iload_n (i := 1) C (dec D_Loop_set rfl) rfl rfl ?_
  refine aw_lshl C (dec D_Loop_set rfl) ?_
  refine aw_lor C (dec D_Loop_set rfl) ?_
  refine as_C16 C Fw hj (p / 64) (dec D_Loop_set rfl) (ix_of (by omega)) ?_
  refine aw_ret_v C r (dec D_Loop_set rfl) (by decide) (by decide) ?_
  exact ⟨rfl, rfl⟩
theorem c_Stuck_get (l : Launch) (G : GG) (a : AD) (c : CC) (m : MM) (o : OO) (j : Nat) (x : Int32) (hj : j < cN c 15 0) (hs : ¬ cN c 16 j = 0) : CT l G y_Stuck_get (.code y_Stuck_get b_Stuck_get 2 (some .int)) 0 0 0 Fno (wld G a c m o) [.ref (a 15 j), .int x] (fun r w2 => r = .inl (some (.int (cI c 9 j))) ∧ w2 = wld G a c m o) := by
  refine CT.of (by decide) (Nat.le_of_ble_eq_true rfl) rfl ?_
  intro E hl hG hF C r hw hex hnm
  subst hl; subst hG
  refine aw_aload_n (i := 0) C (dec D_Stuck_get rfl) rfl rfl ?_
  refine gf_Stuck_7 C hj hs (dec D_Stuck_get rfl) ?_
  refine aw_ret_i C r (dec D_Stuck_get rfl) rfl (by decide) (by decide) ?_
  refine ⟨?_, ?_⟩ <;> first | with_reducible rfl | (simp [mI_I, mL_I, mA_I, mJ_I, mI_L, mL_L, mA_L, mJ_L, mI_A, mL_A, mA_A, mJ_A, mI_J, mL_J, mA_J, mJ_J, cI_I, cL_I, cA_I, cJ_I, cR_I, cN_I, cI_L, cL_L, cA_L, cJ_L, cR_L, cN_L, cI_A, cL_A, cA_A, cJ_A, cR_A, cN_A, cI_J, cL_J, cA_J, cJ_J, cR_J, cN_J, cI_R, cL_R, cA_R, cJ_R, cR_R, cN_R, cI_N, cL_N, cA_N, cJ_N, cR_N, cN_N, ↓reduceIte, Nat.reduceEqDiff, upd_at, updL_at]; done) | (simp [mI_I, mL_I, mA_I, mJ_I, mI_L, mL_L, mA_L, mJ_L, mI_A, mL_A, mA_A, mJ_A, mI_J, mL_J, mA_J, mJ_J, cI_I, cL_I, cA_I, cJ_I, cR_I, cN_I, cI_L, cL_L, cA_L, cJ_L, cR_L, cN_L, cI_A, cL_A, cA_A, cJ_A, cR_A, cN_A, cI_J, cL_J, cA_J, cJ_J, cR_J, cN_J, cI_R, cL_R, cA_R, cJ_R, cR_R, cN_R, cI_N, cL_N, cA_N, cJ_N, cR_N, cN_N, ↓reduceIte, Nat.reduceEqDiff, upd_at, updL_at]; rfl)
theorem c_Chip_turnTo (l : Launch) (G : GG) (a : AD) (c : CC) (m : MM) (o : OO) (x : Int32)  : CT l G y_Chip_turnTo (.code y_Chip_turnTo b_Chip_turnTo 3 none) 0 0 0 (Fyes G) (wld G a c m o) [.ref (a 1 0), .int x] (fun r w2 => r = .inl none ∧ w2 = wld G a (cTurn c x) m o) := by
  refine CT.of (by decide) (Nat.le_of_ble_eq_true rfl) rfl ?_
  intro E hl hG hF C r hw hex hnm
  subst hl; subst hG
  have Fw : Cw E := fun a h => by rw [hF]; exact h
  refine aw_iload_n (i := 1) C (dec D_Chip_turnTo rfl) rfl rfl ?_
  refine aw_aload_n (i := 0) C (dec D_Chip_turnTo rfl) rfl rfl ?_
  refine gf_Chip_22 C (dec D_Chip_turnTo rfl) ?_
  refine aw_isub C (dec D_Chip_turnTo rfl) ?_
  refine aw_istore_n (i := 2) C (dec D_Chip_turnTo rfl) rfl (by decide) ?_
  refine aw_aload_n (i := 0) C (dec D_Chip_turnTo rfl) rfl rfl ?_
  refine aw_dup C (dec D_Chip_turnTo rfl) rfl ?_
  refine gf_Chip_26 C (dec D_Chip_turnTo rfl) ?_
  refine aw_iload_n (i := 2) C (dec D_Chip_turnTo rfl) rfl rfl ?_
  refine aw_if_ge (tgt := 24) C (dec D_Chip_turnTo rfl) (by decide) (fun h13 => ?_) (fun h13 => ?_)
  · try simp only [mI_I, mL_I, mA_I, mJ_I, mI_L, mL_L, mA_L, mJ_L, mI_A, mL_A, mA_A, mJ_A, mI_J, mL_J, mA_J, mJ_J, cI_I, cL_I, cA_I, cJ_I, cR_I, cN_I, cI_L, cL_L, cA_L, cJ_L, cR_L, cN_L, cI_A, cL_A, cA_A, cJ_A, cR_A, cN_A, cI_J, cL_J, cA_J, cJ_J, cR_J, cN_J, cI_R, cL_R, cA_R, cJ_R, cR_R, cN_R, cI_N, cL_N, cA_N, cJ_N, cR_N, cN_N, ↓reduceIte, Nat.reduceEqDiff, upd_at, updL_at] at h13
    refine aw_iload_n (i := 2) C (dec D_Chip_turnTo rfl) rfl rfl ?_
    refine aw_i2l C (dec D_Chip_turnTo rfl) ?_
    refine aw_ladd C (dec D_Chip_turnTo rfl) ?_
    refine pf_Chip_26 C Fw (dec D_Chip_turnTo rfl) ?_
    refine aw_aload_n (i := 0) C (dec D_Chip_turnTo rfl) rfl rfl ?_
    refine aw_iload_n (i := 1) C (dec D_Chip_turnTo rfl) rfl rfl ?_
    refine pf_Chip_22 C Fw (dec D_Chip_turnTo rfl) ?_
    refine aw_ret_v C r (dec D_Chip_turnTo rfl) (by decide) (by decide) ?_
    refine ⟨?_, ?_⟩ <;> first | with_reducible rfl | (simp [mI_I, mL_I, mA_I, mJ_I, mI_L, mL_L, mA_L, mJ_L, mI_A, mL_A, mA_A, mJ_A, mI_J, mL_J, mA_J, mJ_J, cI_I, cL_I, cA_I, cJ_I, cR_I, cN_I, cI_L, cL_L, cA_L, cJ_L, cR_L, cN_L, cI_A, cL_A, cA_A, cJ_A, cR_A, cN_A, cI_J, cL_J, cA_J, cJ_J, cR_J, cN_J, cI_R, cL_R, cA_R, cJ_R, cR_R, cN_R, cI_N, cL_N, cA_N, cJ_N, cR_N, cN_N, ↓reduceIte, Nat.reduceEqDiff, upd_at, updL_at, h13, cTurn]; done) | (simp [mI_I, mL_I, mA_I, mJ_I, mI_L, mL_L, mA_L, mJ_L, mI_A, mL_A, mA_A, mJ_A, mI_J, mL_J, mA_J, mJ_J, cI_I, cL_I, cA_I, cJ_I, cR_I, cN_I, cI_L, cL_L, cA_L, cJ_L, cR_L, cN_L, cI_A, cL_A, cA_A, cJ_A, cR_A, cN_A, cI_J, cL_J, cA_J, cJ_J, cR_J, cN_J, cI_R, cL_R, cA_R, cJ_R, cR_R, cN_R, cI_N, cL_N, cA_N, cJ_N, cR_N, cN_N, ↓reduceIte, Nat.reduceEqDiff, upd_at, updL_at, h13, cTurn]; rfl)
  · try simp only [mI_I, mL_I, mA_I, mJ_I, mI_L, mL_L, mA_L, mJ_L, mI_A, mL_A, mA_A, mJ_A, mI_J, mL_J, mA_J, mJ_J, cI_I, cL_I, cA_I, cJ_I, cR_I, cN_I, cI_L, cL_L, cA_L, cJ_L, cR_L, cN_L, cI_A, cL_A, cA_A, cJ_A, cR_A, cN_A, cI_J, cL_J, cA_J, cJ_J, cR_J, cN_J, cI_R, cL_R, cA_R, cJ_R, cR_R, cN_R, cI_N, cL_N, cA_N, cJ_N, cR_N, cN_N, ↓reduceIte, Nat.reduceEqDiff, upd_at, updL_at] at h13
    refine aw_iload_n (i := 2) C (dec D_Chip_turnTo rfl) rfl rfl ?_
    refine aw_bipush (v := 101) C (dec D_Chip_turnTo rfl) (by decide) ?_
    refine aw_iadd C (dec D_Chip_turnTo rfl) ?_
    refine aw_i2l C (dec D_Chip_turnTo rfl) ?_
    refine aw_goto (tgt := 26) C (dec D_Chip_turnTo rfl) (by decide) ?_
    refine aw_ladd C (dec D_Chip_turnTo rfl) ?_
    refine pf_Chip_26 C Fw (dec D_Chip_turnTo rfl) ?_
    refine aw_aload_n (i := 0) C (dec D_Chip_turnTo rfl) rfl rfl ?_
    refine aw_iload_n (i := 1) C (dec D_Chip_turnTo rfl) rfl rfl ?_
    refine pf_Chip_22 C Fw (dec D_Chip_turnTo rfl) ?_
    refine aw_ret_v C r (dec D_Chip_turnTo rfl) (by decide) (by decide) ?_
    refine ⟨?_, ?_⟩ <;> first | with_reducible rfl | (simp [mI_I, mL_I, mA_I, mJ_I, mI_L, mL_L, mA_L, mJ_L, mI_A, mL_A, mA_A, mJ_A, mI_J, mL_J, mA_J, mJ_J, cI_I, cL_I, cA_I, cJ_I, cR_I, cN_I, cI_L, cL_L, cA_L, cJ_L, cR_L, cN_L, cI_A, cL_A, cA_A, cJ_A, cR_A, cN_A, cI_J, cL_J, cA_J, cJ_J, cR_J, cN_J, cI_R, cL_R, cA_R, cJ_R, cR_R, cN_R, cI_N, cL_N, cA_N, cJ_N, cR_N, cN_N, ↓reduceIte, Nat.reduceEqDiff, upd_at, updL_at, h13, cTurn]; done) | (simp [mI_I, mL_I, mA_I, mJ_I, mI_L, mL_L, mA_L, mJ_L, mI_A, mL_A, mA_A, mJ_A, mI_J, mL_J, mA_J, mJ_J, cI_I, cL_I, cA_I, cJ_I, cR_I, cN_I, cI_L, cL_L, cA_L, cJ_L, cR_L, cN_L, cI_A, cL_A, cA_A, cJ_A, cR_A, cN_A, cI_J, cL_J, cA_J, cJ_J, cR_J, cN_J, cI_R, cL_R, cA_R, cJ_R, cR_R, cN_R, cI_N, cL_N, cA_N, cJ_N, cR_N, cN_N, ↓reduceIte, Nat.reduceEqDiff, upd_at, updL_at, h13, cTurn]; rfl)
theorem c_Chip_far (l : Launch) (G : GG) (a : AD) (c : CC) (m : MM) (o : OO) (x : Int32)  : CT l G y_Chip_far (.code y_Chip_far b_Chip_far 2 (some .int)) 0 0 0 Fno (wld G a c m o) [.ref (a 1 0), .int x] (fun r w2 => r = .inl (some (.int (cFar c x))) ∧ w2 = wld G a c m o) := by
  refine CT.of (by decide) (Nat.le_of_ble_eq_true rfl) rfl ?_
  intro E hl hG hF C r hw hex hnm
  subst hl; subst hG
  refine aw_iload_n (i := 1) C (dec D_Chip_far rfl) rfl rfl ?_
  refine aw_aload_n (i := 0) C (dec D_Chip_far rfl) rfl rfl ?_
  refine gf_Chip_22 C (dec D_Chip_far rfl) ?_
  refine aw_icmp_ge (tgt := 20) C (dec D_Chip_far rfl) (by decide) (fun h5 => ?_) (fun h5 => ?_)
  · try simp only [mI_I, mL_I, mA_I, mJ_I, mI_L, mL_L, mA_L, mJ_L, mI_A, mL_A, mA_A, mJ_A, mI_J, mL_J, mA_J, mJ_J, cI_I, cL_I, cA_I, cJ_I, cR_I, cN_I, cI_L, cL_L, cA_L, cJ_L, cR_L, cN_L, cI_A, cL_A, cA_A, cJ_A, cR_A, cN_A, cI_J, cL_J, cA_J, cJ_J, cR_J, cN_J, cI_R, cL_R, cA_R, cJ_R, cR_R, cN_R, cI_N, cL_N, cA_N, cJ_N, cR_N, cN_N, ↓reduceIte, Nat.reduceEqDiff, upd_at, updL_at] at h5
    refine aw_iload_n (i := 1) C (dec D_Chip_far rfl) rfl rfl ?_
    refine aw_aload_n (i := 0) C (dec D_Chip_far rfl) rfl rfl ?_
    refine gf_Chip_22 C (dec D_Chip_far rfl) ?_
    refine aw_isub C (dec D_Chip_far rfl) ?_
    refine aw_ret_i C r (dec D_Chip_far rfl) rfl (by decide) (by decide) ?_
    refine ⟨?_, ?_⟩ <;> first | with_reducible rfl | (simp [mI_I, mL_I, mA_I, mJ_I, mI_L, mL_L, mA_L, mJ_L, mI_A, mL_A, mA_A, mJ_A, mI_J, mL_J, mA_J, mJ_J, cI_I, cL_I, cA_I, cJ_I, cR_I, cN_I, cI_L, cL_L, cA_L, cJ_L, cR_L, cN_L, cI_A, cL_A, cA_A, cJ_A, cR_A, cN_A, cI_J, cL_J, cA_J, cJ_J, cR_J, cN_J, cI_R, cL_R, cA_R, cJ_R, cR_R, cN_R, cI_N, cL_N, cA_N, cJ_N, cR_N, cN_N, ↓reduceIte, Nat.reduceEqDiff, upd_at, updL_at, h5, cFar]; done) | (simp [mI_I, mL_I, mA_I, mJ_I, mI_L, mL_L, mA_L, mJ_L, mI_A, mL_A, mA_A, mJ_A, mI_J, mL_J, mA_J, mJ_J, cI_I, cL_I, cA_I, cJ_I, cR_I, cN_I, cI_L, cL_L, cA_L, cJ_L, cR_L, cN_L, cI_A, cL_A, cA_A, cJ_A, cR_A, cN_A, cI_J, cL_J, cA_J, cJ_J, cR_J, cN_J, cI_R, cL_R, cA_R, cJ_R, cR_R, cN_R, cI_N, cL_N, cA_N, cJ_N, cR_N, cN_N, ↓reduceIte, Nat.reduceEqDiff, upd_at, updL_at, h5, cFar]; rfl)
  · try simp only [mI_I, mL_I, mA_I, mJ_I, mI_L, mL_L, mA_L, mJ_L, mI_A, mL_A, mA_A, mJ_A, mI_J, mL_J, mA_J, mJ_J, cI_I, cL_I, cA_I, cJ_I, cR_I, cN_I, cI_L, cL_L, cA_L, cJ_L, cR_L, cN_L, cI_A, cL_A, cA_A, cJ_A, cR_A, cN_A, cI_J, cL_J, cA_J, cJ_J, cR_J, cN_J, cI_R, cL_R, cA_R, cJ_R, cR_R, cN_R, cI_N, cL_N, cA_N, cJ_N, cR_N, cN_N, ↓reduceIte, Nat.reduceEqDiff, upd_at, updL_at] at h5
    refine aw_iload_n (i := 1) C (dec D_Chip_far rfl) rfl rfl ?_
    refine aw_aload_n (i := 0) C (dec D_Chip_far rfl) rfl rfl ?_
    refine gf_Chip_22 C (dec D_Chip_far rfl) ?_
    refine aw_isub C (dec D_Chip_far rfl) ?_
    refine aw_bipush (v := 101) C (dec D_Chip_far rfl) (by decide) ?_
    refine aw_iadd C (dec D_Chip_far rfl) ?_
    refine aw_goto (tgt := 26) C (dec D_Chip_far rfl) (by decide) ?_
    refine aw_ret_i C r (dec D_Chip_far rfl) rfl (by decide) (by decide) ?_
    refine ⟨?_, ?_⟩ <;> first | with_reducible rfl | (simp [mI_I, mL_I, mA_I, mJ_I, mI_L, mL_L, mA_L, mJ_L, mI_A, mL_A, mA_A, mJ_A, mI_J, mL_J, mA_J, mJ_J, cI_I, cL_I, cA_I, cJ_I, cR_I, cN_I, cI_L, cL_L, cA_L, cJ_L, cR_L, cN_L, cI_A, cL_A, cA_A, cJ_A, cR_A, cN_A, cI_J, cL_J, cA_J, cJ_J, cR_J, cN_J, cI_R, cL_R, cA_R, cJ_R, cR_R, cN_R, cI_N, cL_N, cA_N, cJ_N, cR_N, cN_N, ↓reduceIte, Nat.reduceEqDiff, upd_at, updL_at, h5, cFar]; done) | (simp [mI_I, mL_I, mA_I, mJ_I, mI_L, mL_L, mA_L, mJ_L, mI_A, mL_A, mA_A, mJ_A, mI_J, mL_J, mA_J, mJ_J, cI_I, cL_I, cA_I, cJ_I, cR_I, cN_I, cI_L, cL_L, cA_L, cJ_L, cR_L, cN_L, cI_A, cL_A, cA_A, cJ_A, cR_A, cN_A, cI_J, cL_J, cA_J, cJ_J, cR_J, cN_J, cI_R, cL_R, cA_R, cJ_R, cR_R, cN_R, cI_N, cL_N, cA_N, cJ_N, cR_N, cN_N, ↓reduceIte, Nat.reduceEqDiff, upd_at, updL_at, h5, cFar]; rfl)
