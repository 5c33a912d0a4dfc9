/-! the JDK: copyOf; printed by tools/m51.py -/
theorem hp.ren {G : GG} {w w' : Wd} {H : Heap} (h : hp G w H) (s : Nat → Nat → Nat × Nat) (hs : ∀ k i q, w' k i = some q → w (s k i).1 (s k i).2 = some q) (hi : ∀ k i k' i', w' k i ≠ none → w' k' i' ≠ none → s k i = s k' i' → k = k' ∧ i = i') : hp G w' H := by
  refine ⟨h.1, h.2.1, fun k i q e => h.2.2.1 _ _ q (hs k i q e), fun k i k' i' q q' e e' z => ?_⟩
  have z2 := h.2.2.2 _ _ _ _ q q' (hs k i q e) (hs k' i' q' e') z
  exact hi k i k' i' (by rw [e]; exact fun x => by cases x) (by rw [e']; exact fun x => by cases x) (Prod.ext z2.1 z2.2)
theorem AW.ren {E : EE} {b : Bool} {cells slots pc : Nat} {w w' : Wd} {lv : List (Nat × Value)} {st : List Value} (s : Nat → Nat → Nat × Nat) (hs : ∀ k i q, w' k i = some q → w (s k i).1 (s k i).2 = some q) (hi : ∀ k i k' i', w' k i ≠ none → w' k' i' ≠ none → s k i = s k' i' → k = k' ∧ i = i') (k : AW E b cells slots w' pc lv st) : AW E b cells slots w pc lv st :=
  fun H locs ls h1 h2 h3 h4 => k H locs ls (h1.ren s hs hi) h2 h3 h4
theorem upW_upW (w : Wd) (k i : Nat) (q q' : Nat × va_E) : upW (upW w k i q) k i q' = upW w k i q' := by
  funext k' i'; unfold upW; split
  · split <;> rfl
  · rfl
def imn (x y : Int32) : Int32 := if y < x then y else x
theorem aw_acmpS {E : EE} {cc : ByteArray} {own : String} {nL : Nat} {R : Room} {b : Bool} {cells slots : Nat} {w : Wd} {pc : Nat} {lv : List (Nat × Value)} {st : List Value} : True := trivial
theorem c_Math_maxW (l : Launch) (G : GG) (w : Wd) (x y : Int32)  : CT l G y_Math_max (.code y_Math_max b_Math_max 2 (some .int)) 0 0 0 Fno (w) [.int x, .int y] (fun r w2 => r = .inl (some (.int (imx x y))) ∧ w2 = w) := by
  refine CT.ofF (by decide +kernel) (Nat.le_of_ble_eq_true rfl) rfl ?_
  intro E hl hG hF C r hw hex hnm
  subst hl; subst hG
  refine aw_iload_n (i := 0) C (dec D_Math_max rfl) rfl rfl ?_
  refine aw_iload_n (i := 1) C (dec D_Math_max rfl) rfl rfl ?_
  refine aw_icmp_lt (tgt := 9) C (dec D_Math_max rfl) (by decide) (fun h2 => ?_) (fun h2 => ?_)
  · refine aw_iload_n (i := 1) C (dec D_Math_max rfl) rfl rfl ?_
    refine aw_ret_i C r (dec D_Math_max rfl) rfl (by decide) (by decide) ?_
    refine ⟨by simp [imx, h2], rfl⟩
  · refine aw_iload_n (i := 0) C (dec D_Math_max rfl) rfl rfl ?_
    refine aw_goto (tgt := 10) C (dec D_Math_max rfl) (by decide) ?_
    refine aw_ret_i C r (dec D_Math_max rfl) rfl (by decide) (by decide) ?_
    refine ⟨by simp [imx, h2], rfl⟩
theorem c_Math_minW (l : Launch) (G : GG) (w : Wd) (x y : Int32)  : CT l G y_Math_min (.code y_Math_min b_Math_min 2 (some .int)) 0 0 0 Fno (w) [.int x, .int y] (fun r w2 => r = .inl (some (.int (imn x y))) ∧ w2 = w) := by
  refine CT.ofF (by decide +kernel) (Nat.le_of_ble_eq_true rfl) rfl ?_
  intro E hl hG hF C r hw hex hnm
  subst hl; subst hG
  refine aw_iload_n (i := 0) C (dec D_Math_min rfl) rfl rfl ?_
  refine aw_iload_n (i := 1) C (dec D_Math_min rfl) rfl rfl ?_
  refine aw_icmp_gt (tgt := 9) C (dec D_Math_min rfl) (by decide) (fun h2 => ?_) (fun h2 => ?_)
  · refine aw_iload_n (i := 1) C (dec D_Math_min rfl) rfl rfl ?_
    refine aw_ret_i C r (dec D_Math_min rfl) rfl (by decide) (by decide) ?_
    refine ⟨by simp [imn, h2], rfl⟩
  · refine aw_iload_n (i := 0) C (dec D_Math_min rfl) rfl rfl ?_
    refine aw_goto (tgt := 10) C (dec D_Math_min rfl) (by decide) ?_
    refine aw_ret_i C r (dec D_Math_min rfl) rfl (by decide) (by decide) ?_
    refine ⟨by simp [imn, h2], rfl⟩
