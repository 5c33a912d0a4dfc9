/-! the component: rows of the files array; clear; images: put, get, sum; printed by tools/m47.py -/
def rup (f : Nat → Option Nat) (t : Nat) (x : Option Nat) : Nat → Option Nat := fun j => if j = t then x else f j
section FR
variable {E : EE} {cc : ByteArray} {nL : Nat} {R : Room} {b : Bool} {cells slots : Nat} {a : AD} {c : CC} {m : MM} {o : OO} {pc : Nat} {lv : List (Nat × Value)} {st : List Value}
theorem as_C6N {own : String} (C : Cx E cc own nL R) (Fw : Cw E) {x : Int32} (t : Nat) (d : decode cc pc = .ok (.aastore, 1)) (hx : Ix x t 8) (kk : AW E false cells slots (wld (eG E) a (sR c 6 0 (rup (cR c 6 0) t none)) m o) (pc + 1) lv st) : AW E b cells slots (wld (eG E) a c m o) pc lv (.null :: .int x :: .ref (a 6 0) :: st) :=
  aw_aastN (k0 := 6) (i0 := 0) C Fw 4 rfl d (cC_at (by decide) Nat.one_pos rfl) hx (AW.wd (wR_6 _ _ (fun j => by unfold va_up rup; split <;> rfl) Nat.one_pos) kk)
theorem as_C6 {own : String} (C : Cx E cc own nL R) (Fw : Cw E) {x : Int32} {j : Nat} (hj : j < cN c 17 0) (t : Nat) (d : decode cc pc = .ok (.aastore, 1)) (hx : Ix x t 8) (kk : AW E false cells slots (wld (eG E) a (sR c 6 0 (rup (cR c 6 0) t (some j))) m o) (pc + 1) lv st) : AW E b cells slots (wld (eG E) a c m o) pc lv (.ref (a 17 j) :: .int x :: .ref (a 6 0) :: st) :=
  aw_aast (k0 := 6) (i0 := 0) C Fw 4 rfl d (cC_at (by decide) Nat.one_pos rfl) (rcF hj) (.inl rfl) hx (AW.wd (wR_6 _ _ (fun j => by unfold va_up rup; split <;> rfl) Nat.one_pos) kk)
end FR
theorem up2_id {α : Type} (f : Nat → Nat → α) (k i : Nat) : up2 f k i (f k i) = f := by
  funext k' i'; unfold up2; split
  · split
    · next h1 h2 => subst h1; subst h2; rfl
    · rfl
  · rfl
theorem up2_up2 {α : Type} (f : Nat → Nat → α) (k i : Nat) (v v' : α) : up2 (up2 f k i v) k i v' = up2 f k i v' := by
  funext k' i'; unfold up2; split
  · split <;> rfl
  · rfl
theorem sA_id (c : CC) (k i : Nat) : sA c k i (cA c k i) = c := by unfold sA cA; rw [up2_id]
theorem sA_sA (c : CC) (k i : Nat) (v v' : Nat → Int32) : sA (sA c k i v) k i v' = sA c k i v' := by unfold sA; rw [up2_up2]
theorem cA_self (c : CC) (k i : Nat) (v : Nat → Int32) : cA (sA c k i v) k i = v := by rw [cA_A, if_pos rfl, if_pos rfl]
def cClrF (c : CC) : Nat → CC
  | 0 => c
  | t + 1 => sR (cClrF c t) 6 0 (rup (cR (cClrF c t) 6 0) t none)
def cClrP (c : CC) : Nat → CC
  | 0 => c
  | t + 1 => sA (sA (sA (cClrP c t) 7 0 (upd (cA (cClrP c t) 7 0) t 0)) 8 0 (upd (cA (sA (cClrP c t) 7 0 (upd (cA (cClrP c t) 7 0) t 0)) 8 0) t 0)) 9 0 (upd (cA (sA (sA (cClrP c t) 7 0 (upd (cA (cClrP c t) 7 0) t 0)) 8 0 (upd (cA (sA (cClrP c t) 7 0 (upd (cA (cClrP c t) 7 0) t 0)) 8 0) t 0)) 9 0) t 0)
def cClr (c : CC) : CC := cClrP (cClrF c 8) 101
/-- bytes of v, put into an array -/
def pB (A : Nat → Int32) (p : Nat) (v : Int64) : Nat → Nat → Int32
  | 0 => A
  | k + 1 => upd (pB A p v k) (p + k) (mByte v k)
theorem pB_at (A : Nat → Int32) (p : Nat) (v : Int64) (q : Nat) : ∀ k, pB A p v k q = if p ≤ q ∧ q < p + k then mByte v (q - p) else A q
  | 0 => by rw [if_neg (by omega)]; rfl
  | k + 1 => by
    rw [pB, upd_at, pB_at A p v q k]
    by_cases e : q = p + k
    · rw [if_pos e, if_pos (by omega), show q - p = k by omega]
    · rw [if_neg e]
      by_cases h : p ≤ q ∧ q < p + k
      · rw [if_pos h, if_pos (by omega)]
      · rw [if_neg h, if_neg (by omega)]
theorem mPutB_10 (m : MM) (p : Nat) (v : Int64) : ∀ k, mA (mPutB m p v k) 10 = pB (mA m 10) p v k
  | 0 => rfl
  | k + 1 => by rw [mPutB, mS, mA_A, if_pos rfl, mPutB_10 m p v k]; rfl
/-- an image's value, from its last byte on -/
def gDn (A : Nat → Int32) (p : Nat) : Nat → Int32 → Int32
  | 0, x => x
  | s + 1, x => gDn A p s ((x <<< (8 &&& 31)) ||| A (p + s))
def sN1 (A : Nat → Int32) : Nat → Int32
  | 0 => 1
  | k + 1 => sN1 A k + A k
theorem mSumN_10 (m : MM) : ∀ k, mSumN m k = sN1 (mA m 10) k
  | 0 => rfl
  | k + 1 => by rw [mSumN, sN1, mSumN_10 m k]
def cSum (A : Nat → Int32) : Int32 := sN1 A 158 &&& 65535
theorem byte_amt : ∀ k : Fin 8, ((8 : Int32) * nI k.1).toInt64.toUInt64 &&& Int64.toUInt64 63 = UInt64.ofNat (8 * k.1) ∧ ((8 : Int32) * nI k.1).toInt64 &&& 63 = Int64.ofNat (8 * k.1) := by decide +kernel
theorem byte_m : ∀ j : Fin 32, (255 : Int32).toBitVec.getLsbD j.1 = decide (j.1 < 8) := by decide +kernel
theorem byte_m64 : ∀ j : Fin 64, (255 : Int64).toBitVec.getLsbD j.1 = decide (j.1 < 8) := by decide +kernel
theorem cByte_eq (v : Int64) {k : Nat} (hk : k < 8) : (ush v (8 * nI k)).toInt32 &&& 255 = mByte v k := by
  unfold ush mByte
  rw [(byte_amt ⟨k, hk⟩).1, (byte_amt ⟨k, hk⟩).2]
  apply Int32.toBitVec_inj.mp
  refine BitVec.eq_of_getLsbD_eq fun j hj => ?_
  have h1 := byte_m ⟨j, hj⟩
  have h2 := byte_m64 ⟨j, by omega⟩
  have e8 : ((8#64 * BitVec.ofNat 64 k).smod 64#64).toNat = 8 * k := by
    have : ∀ q : Fin 8, ((8#64 * BitVec.ofNat 64 q.1).smod 64#64).toNat = 8 * q.1 := by decide +kernel
    exact this ⟨k, hk⟩
  have e9 : (255#32).getLsbD j = decide (j < 8) := h1
  simp [Int64.toBitVec_shiftRight, UInt64.toBitVec_shiftRight]
  rw [e8, e9]
  by_cases h : j < 8
  · rw [BitVec.getLsbD_signExtend, BitVec.getLsbD_signExtend, BitVec.getLsbD_sshiftRight, BitVec.getLsbD_ushiftRight]
    have h64 : 8 * k + j < 64 := by omega
    have hm : 8 * k % 64 = 8 * k := by omega
    simp [h, h64, hm, show j < 64 by omega, show ¬ 64 ≤ j by omega]
  · simp [h]
