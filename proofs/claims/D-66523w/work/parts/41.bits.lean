/-! bits of longs: what loops and pages hold; by hand -/
def bB (x : Int64) (k : Nat) : Bool := x.toBitVec.getLsbD k
theorem bB_ext {x y : Int64} (h : ∀ k, k < 64 → bB x k = bB y k) : x = y := Int64.toBitVec_inj.mp (BitVec.eq_of_getLsbD_eq fun i hi => h i hi)
theorem sh_amt : ∀ p : Fin 101, (nI p.1).toInt64.toUInt64 &&& Int64.toUInt64 63 = UInt64.ofNat (p.1 % 64) := by decide +kernel
theorem sh_amt2 : ∀ p : Fin 101, (nI p.1).toInt64 &&& 63 = Int64.ofNat (p.1 % 64) := by decide +kernel
theorem i32_and1 (x : Int32) : x &&& 1 = bI (x.toBitVec.getLsbD 0) := by
  apply Int32.toBitVec_inj.mp
  refine BitVec.eq_of_getLsbD_eq fun i hi => ?_
  rw [Int32.toBitVec_and, BitVec.getLsbD_and]
  by_cases h : i = 0
  · subst h
    cases e : x.toBitVec.getLsbD 0
    · rfl
    · rfl
  · have h1 : (1 : Int32).toBitVec.getLsbD i = false := by
      have : ∀ q : Fin 32, q.1 ≠ 0 → (1 : Int32).toBitVec.getLsbD q.1 = false := by decide +kernel
      exact this ⟨i, hi⟩ h
    rw [h1, Bool.and_false]
    cases x.toBitVec.getLsbD 0
    · exact (BitVec.getLsbD_zero (w := 32) (i := i)).symm
    · exact h1.symm
theorem ush_bit (x : Int64) {p : Nat} (hp : p < 101) : ((ush x (nI p)).toInt32 &&& 1) = bI (bB x (p % 64)) := by
  rw [i32_and1, ush, sh_amt ⟨p, hp⟩]
  congr 1
  show ((x.toUInt64 >>> UInt64.ofNat (p % 64)).toInt64.toInt32).toBitVec.getLsbD 0 = x.toBitVec.getLsbD (p % 64)
  rw [Int64.toBitVec_toInt32]
  simp [UInt64.toBitVec_shiftRight]
  rw [← BitVec.getLsbD_eq_getElem, BitVec.getLsbD_signExtend]
  simp
theorem bB_and (x y : Int64) (k : Nat) : bB (x &&& y) k = (bB x k && bB y k) := by unfold bB; rw [Int64.toBitVec_and, BitVec.getLsbD_and]
theorem bB_or (x y : Int64) (k : Nat) : bB (x ||| y) k = (bB x k || bB y k) := by unfold bB; rw [Int64.toBitVec_or, BitVec.getLsbD_or]
theorem bB_one : ∀ (b : Bool) (q k : Fin 64), bB ((bI b).toInt64 <<< Int64.ofNat q.1) k.1 = (b && decide (k.1 = q.1)) := by decide +kernel
theorem bB_mask : ∀ (q k : Fin 64), bB (((1 : Int64) <<< Int64.ofNat q.1) ^^^ -1) k.1 = !decide (k.1 = q.1) := by decide +kernel
theorem bB_0 (k : Nat) : bB 0 k = false := BitVec.getLsbD_zero
/-- a bit of a loop, at a place -/
def lB (g : Nat → Int64) (p : Nat) : Bool := bB (g (p / 64)) (p % 64)
theorem lGet_bit (g : Nat → Int64) {p : Nat} (hp : p < 101) : lGet g p = bI (lB g p) := by rw [lGet, ush_bit _ hp]; rfl
theorem lSet_bit (g : Nat → Int64) {p q : Nat} (hp : p < 101) (b : Bool) : lB (lSet g p (bI b)) q = if q = p then b else lB g q := by
  unfold lB lSet
  rw [updL_at, sh_amt2 ⟨p, hp⟩]
  by_cases e : q / 64 = p / 64
  · rw [if_pos e, bB_or, bB_and, bB_one b ⟨p % 64, by omega⟩ ⟨q % 64, by omega⟩, bB_mask ⟨p % 64, by omega⟩ ⟨q % 64, by omega⟩]
    by_cases e2 : q % 64 = p % 64
    · have e3 : q = p := by omega
      rw [if_pos e3]; simp [e2]
    · have e3 : ¬ q = p := fun z => e2 (by rw [z])
      rw [if_neg e3]; simp [e2, e]
  · have e3 : ¬ q = p := fun z => e (by rw [z])
    rw [if_neg e, if_neg e3]
/-- what a read gathers -/
def rdN (f : Nat → Bool) : Nat → Int64
  | 0 => 0
  | k + 1 => rdN f k ||| ((bI (f k)).toInt64 <<< ((nI k).toInt64 &&& 63))
theorem rdN_bit (f : Nat → Bool) {k : Nat} (hk : k < 64) : ∀ n, n ≤ 64 → bB (rdN f n) k = (decide (k < n) && f k)
  | 0, _ => by rw [rdN, bB_0]; simp
  | n + 1, h => by
    have e := bB_one (f n) ⟨n % 64, by omega⟩ ⟨k, hk⟩
    have e2 : n % 64 = n := by omega
    rw [rdN, bB_or, rdN_bit f hk n (by omega), sh_amt2 ⟨n, by omega⟩, e]
    by_cases e3 : k = n
    · subst e3; simp [e2]
    · by_cases e4 : k < n
      · simp [e2, e3, e4, show k < n + 1 by omega]
      · simp [e2, e3, e4, show ¬ k < n + 1 by omega]
theorem rdN_eq {f : Nat → Bool} {v : Int64} (h : ∀ k, k < 64 → f k = bB v k) : rdN f 64 = v := bB_ext fun k hk => by rw [rdN_bit f hk 64 (by omega), h k hk]; simp [hk]
