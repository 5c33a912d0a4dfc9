/-! the disk: its two images; by hand -/
/-- image i of the disk d holds these bytes -/
def WhI (d : Nat → Int64) (i : Nat) (A : Nat → Int32) : Prop := ∀ p, p < 20 → d (20 * i + p) = wdD A p 8 0
/-- a directory, as an image holds it -/
def DDr (x : Int32) (nm : Nat → Int32) (L : Nat → Nat) (ch : Nat → Nat → Nat) (nx : Nat → Int32) : Nat → Int32 := imB x nm (fun f => if pg (L f) = 0 then 0 else nI (ch f 0)) (fun f => nI (L f)) nx
def DOk (nm : Nat → Int32) (L : Nat → Nat) (ch : Nat → Nat → Nat) (nx : Nat → Int32) : Prop := NX 8 L ch nx ∧ CInj L ch ∧ ∀ f, f < 8 → L f ≤ 488 ∧ (nm f = 0 → L f = 0) ∧ ∀ i, i < pg (L f) → 40 ≤ ch f i ∧ ch f i < 101
def Disk (d : Nat → Int64) (cu tn : Nat) : Prop := cu < 2 ∧ tn < 256 ∧ (∃ nm L ch nx, DOk nm L ch nx ∧ WhI d cu (DDr (nI tn) nm L ch nx)) ∧ (mByte (d (20 * (1 - cu))) 0 = nI ((tn + 255) % 256) ∨ (tn = 0 ∧ cu = 0 ∧ mByte (d 20) 0 = 0))
theorem Disk.of {d d' : Nat → Int64} {cu tn : Nat} (h : Disk d cu tn) (e : ∀ p, p < 40 → d' p = d p) : Disk d' cu tn := by
  obtain ⟨h1, h2, ⟨nm, L, ch, nx, h3, h4⟩, h5⟩ := h
  refine ⟨h1, h2, ⟨nm, L, ch, nx, h3, fun p hp => ?_⟩, ?_⟩
  · rw [e _ (by omega)]; exact h4 p hp
  · rw [e _ (by omega), e 20 (by omega)]; exact h5
theorem byt_img {A : Nat → Int32} {x : Int32} {nm fs ln nx : Nat → Int32} (h : ∀ t, t < 160 → A t = imB x nm fs ln nx t) : ∃ f, Byt A f 160 := byt_of fun t ht => by rw [h t ht]; exact imB_byte _ _ _ _ _ ht
/-- the bytes of a whole image -/
theorem WhI.byte {d : Nat → Int64} {i : Nat} {A : Nat → Int32} (h : WhI d i A) {f : Nat → Nat} (hA : Byt A f 160) {t : Nat} (ht : t < 160) : mByte (d (20 * i + t / 8)) (t % 8) = A t := by
  rw [h (t / 8) (by omega), wd_byte A (t / 8) (fun s => f (8 * (t / 8) + s)) (fun s hs => hA _ (by omega)) (by omega), show 8 * (t / 8) + t % 8 = t by omega]
/-- an image is loaded -/
theorem mLoadN_J (m : MM) (wh : Nat) : ∀ p, mJ (mLoadN m wh p) = mJ m
  | 0 => rfl
  | p + 1 => by
    rw [mLoadN]
    have : ∀ (m : MM) (q : Nat) (v : Int64) (k : Nat), mJ (mPutB m q v k) = mJ m := fun m q v k => by
      induction k with
      | zero => rfl
      | succ k ih => exact ih
    rw [this]; exact mLoadN_J m wh p
theorem mLoadN_10 (m : MM) (wh t : Nat) : ∀ p, mA (mLoadN m wh p) 10 t = if t < 8 * p then mByte (mJ m 2 (20 * wh + t / 8)) (t % 8) else mA m 10 t
  | 0 => by rw [if_neg (by omega)]; rfl
  | p + 1 => by
    rw [mLoadN, mPutB_10, pB_at, mLoadN_J, mLoadN_10 m wh t p]
    by_cases e : 8 * p ≤ t ∧ t < 8 * p + 8
    · rw [if_pos e, if_pos (by omega), show t / 8 = p by omega, show t % 8 = t - 8 * p by omega]
    · rw [if_neg e]
      by_cases z : t < 8 * p
      · rw [if_pos z, if_pos (by omega)]
      · rw [if_neg z, if_neg (by omega)]
theorem mLoadN_20 (m : MM) (wh : Nat) {t : Nat} (ht : t < 160) : mA (mLoadN m wh 20) 10 t = mByte (mJ m 2 (20 * wh + t / 8)) (t % 8) := by
  rw [mLoadN_10, if_pos (by omega)]
theorem mLoadN_A (m : MM) (wh : Nat) {j : Nat} (hj : j ≠ 10) : ∀ p, mA (mLoadN m wh p) j = mA m j
  | 0 => rfl
  | p + 1 => by rw [mLoadN, mPutB_A _ _ _ hj]; exact mLoadN_A m wh hj p
theorem mLoadN_I (m : MM) (wh : Nat) : ∀ p, mI (mLoadN m wh p) = mI m ∧ mL (mLoadN m wh p) = mL m
  | 0 => ⟨rfl, rfl⟩
  | p + 1 => by
    rw [mLoadN]
    have : ∀ (m : MM) (q : Nat) (v : Int64) (k : Nat), mI (mPutB m q v k) = mI m ∧ mL (mPutB m q v k) = mL m := fun m q v k => by
      induction k with
      | zero => exact ⟨rfl, rfl⟩
      | succ k ih => exact ih
    rw [(this _ _ _ _).1, (this _ _ _ _).2]; exact mLoadN_I m wh p
/-- a whole image is valid -/
theorem img_valid {m : MM} {x : Int32} {nm fs ln nx : Nat → Int32} (h : ∀ t, t < 160 → mA m 10 t = imB x nm fs ln nx t) : mValid m = 1 := by
  obtain ⟨f, hf⟩ := byt_img h
  have hs := sNat_le hf 158 (by omega)
  unfold mValid
  rw [mGetB_2 hf (by omega), mSum_N hf (by omega)]
  have e0 : cSum (im0 x nm fs ln nx) = nI (sNat f 158) := by
    rw [← cSum_N hf (by omega)]
    exact cSum_cg fun t ht => by rw [h t (by omega), imB, if_pos ht]
  have e1 : nI (f 158) = nI (sNat f 158 / 2 ^ (8 * 0) % 256) := by
    rw [← (hf 158 (by omega)).1, h 158 (by omega), imB, if_neg (by omega), e0, mByte_nI (by omega) (by omega)]
  have e2 : nI (f (158 + 1)) = nI (sNat f 158 / 2 ^ (8 * 1) % 256) := by
    rw [← (hf (158 + 1) (by omega)).1, h (158 + 1) (by omega), imB, if_neg (by omega), e0, mByte_nI (by omega) (by omega)]
  have b1 := (hf 158 (by omega)).2
  have b2 := (hf (158 + 1) (by omega)).2
  have z1 := (nI_eq (by omega) (by omega)).mp e1
  have z2 := (nI_eq (by omega) (by omega)).mp e2
  have : f (158 + 1) * 256 + f 158 = sNat f 158 := by
    rw [z1, z2]
    simp only [Nat.reduceMul, Nat.reducePow]
    omega
  rw [this, if_pos rfl]
theorem img_zero {m : MM} (h : ∀ t, t < 160 → mA m 10 t = 0) : mValid m = 0 := by
  have hf : Byt (mA m 10) (fun _ => 0) 160 := fun t ht => ⟨h t ht, (by decide : 0 < 256)⟩
  have hs : ∀ k, sNat (fun _ => 0) k = 1 := fun k => by
    induction k with
    | zero => rfl
    | succ k ih => rw [sNat, ih]
  unfold mValid
  rw [mGetB_2 hf (by omega), mSum_N hf (by omega), hs, if_neg (by decide)]
theorem mByte_0 {k : Nat} (hk : k < 8) : mByte 0 k = 0 := by
  rw [mByte_N _ hk, show (0 : Int64).toBitVec.toNat = 0 from rfl, Nat.zero_div]; rfl
/-- what an image holds, by bytes -/
theorem imB_0 (x : Int32) (nm fs ln nx : Nat → Int32) : imB x nm fs ln nx 0 = mByte x.toInt64 0 := rfl
theorem imB_nm (x : Int32) (nm fs ln nx : Nat → Int32) {f r : Nat} (hf : f < 8) (hr : r < 4) : imB x nm fs ln nx (1 + 7 * f + r) = mByte (nm f).toInt64 r := by
  rw [imB, if_pos (by omega), im0, if_neg (by omega), if_pos (by omega), imE, show (1 + 7 * f + r - 1) % 7 = r by omega, show (1 + 7 * f + r - 1) / 7 = f by omega, if_pos hr]
theorem imB_fs (x : Int32) (nm fs ln nx : Nat → Int32) {f : Nat} (hf : f < 8) : imB x nm fs ln nx (5 + 7 * f) = mByte (fs f).toInt64 0 := by
  rw [imB, if_pos (by omega), im0, if_neg (by omega), if_pos (by omega), imE, show (5 + 7 * f - 1) % 7 = 4 by omega, show (5 + 7 * f - 1) / 7 = f by omega, if_neg (by omega), if_pos rfl]
theorem imB_ln (x : Int32) (nm fs ln nx : Nat → Int32) {f r : Nat} (hf : f < 8) (hr : r < 2) : imB x nm fs ln nx (6 + 7 * f + r) = mByte (ln f).toInt64 r := by
  rw [imB, if_pos (by omega), im0, if_neg (by omega), if_pos (by omega), imE, show (6 + 7 * f + r - 1) % 7 = 5 + r by omega, show (6 + 7 * f + r - 1) / 7 = f by omega, if_neg (by omega), if_neg (by omega), show 5 + r - 5 = r by omega]
theorem imB_nx (x : Int32) (nm fs ln nx : Nat → Int32) {p : Nat} (hp : p < 101) : imB x nm fs ln nx (57 + p) = mByte (nx p).toInt64 0 := by
  rw [imB, if_pos (by omega), im0, if_neg (by omega), if_neg (by omega), show 57 + p - 57 = p by omega]
theorem byte1 {n : Nat} (hn : n < 256) : mByte (nI n).toInt64 0 = nI n := by
  rw [mByte_nI (by omega) (by omega)]; simp only [Nat.mul_zero, Nat.pow_zero, Nat.div_one]; rw [Nat.mod_eq_of_lt hn]
/-- the name comes back -/
theorem name_back {m : MM} {x : Int32} {nm fs ln nx : Nat → Int32} (h : ∀ t, t < 160 → mA m 10 t = imB x nm fs ln nx t) {f : Nat} (hf : f < 8) : mGetB m (1 + 7 * f) 4 = nm f := by
  obtain ⟨b, hb⟩ := byt_img h
  rw [mGetB_4 hb (by omega)]
  have key : ∀ r, r < 4 → b (1 + 7 * f + r) = (nm f).toBitVec.toNat / 2 ^ (8 * r) % 256 := fun r hr => by
    have z := (hb (1 + 7 * f + r) (by omega))
    rw [h _ (by omega), imB_nm _ _ _ _ _ hf hr, mByte_I _ hr] at z
    have := z.2
    exact ((nI_eq (by omega) (by omega)).mp z.1).symm
  have k0 := key 0 (by omega); have k1 := key 1 (by omega); have k2 := key 2 (by omega); have k3 := key 3 (by omega)
  rw [show 1 + 7 * f + 0 = 1 + 7 * f from rfl] at k0
  rw [k0, k1, k2, k3]
  apply i32_eq
  have hX := (nm f).toBitVec.isLt
  generalize (nm f).toBitVec.toNat = X at hX ⊢
  simp only [Nat.reduceMul, Nat.reducePow]
  rw [pk_tn (by omega)]
  omega
theorem len_back {m : MM} {x : Int32} {nm fs nx : Nat → Int32} {L : Nat → Nat} (h : ∀ t, t < 160 → mA m 10 t = imB x nm fs (fun f => nI (L f)) nx t) {f : Nat} (hf : f < 8) (hL : L f ≤ 488) : mGetB m (6 + 7 * f) 2 = nI (L f) := by
  obtain ⟨b, hb⟩ := byt_img h
  rw [mGetB_2 hb (by omega)]
  have key : ∀ r, r < 2 → b (6 + 7 * f + r) = L f / 2 ^ (8 * r) % 256 := fun r hr => by
    have z := (hb (6 + 7 * f + r) (by omega))
    rw [h _ (by omega), imB_ln _ _ _ _ _ hf hr, mByte_nI (by omega) (by omega)] at z
    have := z.2
    exact ((nI_eq (by omega) (by omega)).mp z.1).symm
  have k0 := key 0 (by omega); have k1 := key 1 (by omega)
  rw [show 6 + 7 * f + 0 = 6 + 7 * f from rfl] at k0
  rw [k0, k1]
  refine congrArg nI ?_
  simp only [Nat.reduceMul, Nat.reducePow]
  omega
/-- the image's directory, as the model's mount wants it -/
theorem img_MIm {m : MM} {x : Int32} {nm nx : Nat → Int32} {L : Nat → Nat} {ch : Nat → Nat → Nat} (h : ∀ t, t < 160 → mA m 10 t = DDr x nm L ch nx t) (hD : DOk nm L ch nx) : MIm m L ch := by
  intro f hf
  have hO := hD.2.2 f hf
  refine ⟨?_, hO.1, fun i hi => (hO.2.2 i hi).2, fun h0 => ?_, fun i hi => ?_⟩
  · rw [name_back h hf, len_back h hf hO.1]
    by_cases e : nm f = 0
    · rw [if_pos e, hO.2.1 e]; rfl
    · rw [if_neg e]
  · have := hO.2.2 0 h0
    rw [h _ (by omega), DDr, imB_fs _ _ _ _ _ hf, if_neg (by omega), byte1 (by omega)]
  · have a := hO.2.2 i (by omega); have b := hO.2.2 (i + 1) hi
    rw [h _ (by omega), DDr, imB_nx _ _ _ _ _ (by omega), hD.1.1 f i hf hi, byte1 (by omega)]
/-! mount chooses the whole image -/
theorem mMt_J (m : MM) : mJ (mMt2 m) 2 = mJ m 2 ∧ mJ (mMt3 m) 2 = mJ m 2 ∧ mJ (mMt5 m) 2 = mJ m 2 := by
  have h0 : mJ (mMt0 m) 2 = mJ m 2 := by
    rw [mMt0, mForget_J]; rfl
  have h2 : mJ (mMt2 m) 2 = mJ m 2 := by unfold mMt2; rw [mLoadN_J, mTurns_J, h0]
  have h3 : mJ (mMt3 m) 2 = mJ m 2 := by unfold mMt3; rw [mLoadN_J, h2]
  refine ⟨h2, h3, ?_⟩
  unfold mMt5
  rw [mLoadN_J, mJ_I]; exact h3
theorem mMt2_10 (m : MM) {t : Nat} (ht : t < 160) : mA (mMt2 m) 10 t = mByte (mJ m 2 (20 + t / 8)) (t % 8) := by
  have h0 := (mMt_J m).1
  unfold mMt2 at h0 ⊢
  rw [mLoadN_J] at h0
  rw [mLoadN_20 _ _ ht, h0]
theorem mMt3_10 (m : MM) {t : Nat} (ht : t < 160) : mA (mMt3 m) 10 t = mByte (mJ m 2 (t / 8)) (t % 8) := by
  have h0 := (mMt_J m).1
  unfold mMt3
  rw [mLoadN_20 _ _ ht, h0, show 20 * 0 + t / 8 = t / 8 by omega]
theorem mMt5_10 (m : MM) {t : Nat} (ht : t < 160) : mA (mMt5 m) 10 t = mByte (mJ m 2 (20 * mCur m + t / 8)) (t % 8) := by
  have h0 := (mMt_J m).2.1
  unfold mMt5
  rw [mLoadN_20 _ _ ht, mJ_I, h0]
theorem sub256 {a b : Nat} (ha : a < 256) (hb : b < 256) : nI a - nI b + 256 = nI (a + 256 - b) := by
  rw [show (256 : Int32) = nI 256 from rfl, Int32.sub_eq_add_neg, Int32.add_assoc, Int32.add_comm (-nI b), ← Int32.sub_eq_add_neg, pk_sub (by omega), nI_add, show a + (256 - b) = a + 256 - b by omega]
theorem ahead_N (m : MM) : ∃ b1 b0, b1 < 256 ∧ b0 < 256 ∧ mByte (mJ m 2 20) 0 = nI b1 ∧ mByte (mJ m 2 0) 0 = nI b0 ∧ mAhead m = nI ((b1 + 256 - b0) % 256) := by
  obtain ⟨b1, h1, e1⟩ := mByte_lt (mJ m 2 20) (k := 0) (by omega)
  obtain ⟨b0, h0, e0⟩ := mByte_lt (mJ m 2 0) (k := 0) (by omega)
  refine ⟨b1, b0, h1, h0, e1, e0, ?_⟩
  unfold mAhead
  rw [mMt2_10 m (by omega), mMt3_10 m (by omega)]
  simp only [Nat.zero_div, Nat.zero_mod, Nat.add_zero]
  rw [e1, e0, sub256 h1 h0, show (256 : Int32) = nI 256 from rfl, pk_rem (by omega) (by omega) (by omega)]
/-- a blank disk has no image -/
theorem blank_valid {m : MM} (h : ∀ p, p < 40 → mJ m 2 p = 0) : mValid (mMt3 m) = 0 ∧ mValid (mMt2 m) = 0 := by
  refine ⟨img_zero fun t ht => ?_, img_zero fun t ht => ?_⟩
  · rw [mMt3_10 m ht, h _ (by omega), mByte_0 (by omega)]
  · rw [mMt2_10 m ht, h _ (by omega), mByte_0 (by omega)]
theorem DDr_byt (x : Int32) (nm : Nat → Int32) (L : Nat → Nat) (ch : Nat → Nat → Nat) (nx : Nat → Int32) : ∃ f, Byt (DDr x nm L ch nx) f 160 := byt_of fun t ht => imB_byte _ _ _ _ _ ht
theorem cur_0 {a : Int32} {one two : Int32} {n : Nat} (h1 : one = 1) (ea : a = nI n) (h2 : n = 255 ∨ n = 0) : (if one = 0 then 1 else if two = 0 then 0 else if a = 0 then 0 else if a ≤ 127 then 1 else 0) = 0 := by
  subst h1; subst ea
  rw [if_neg (by decide)]
  split
  · rfl
  · rcases h2 with rfl | rfl
    · rw [if_neg (by decide), if_neg (by decide)]
    · rw [if_pos (by decide)]
theorem cur_1 {a : Int32} {one two : Int32} (h2 : two = 1) (ea : a = 1) : (if one = 0 then 1 else if two = 0 then 0 else if a = 0 then 0 else if a ≤ 127 then 1 else 0) = 1 := by
  subst h2; subst ea
  split
  · rfl
  · rw [if_neg (by decide), if_neg (by decide), if_pos (by decide)]
theorem nI1 {n : Nat} (hn : n < 256) : mByte (nI n).toInt64 0 = nI n := byte1 hn
/-- with a whole image: it is valid and mount takes it -/
theorem Disk.cur {m : MM} {cu tn : Nat} (h : Disk (mJ m 2) cu tn) : mCur m = cu ∧ ¬ (mValid (mMt3 m) = 0 ∧ mValid (mMt2 m) = 0) := by
  obtain ⟨h1, h2, ⟨nm, L, ch, nx, h3, h4⟩, h5⟩ := h
  obtain ⟨f, hf⟩ := DDr_byt (nI tn) nm L ch nx
  obtain ⟨b1, b0, l1, l0, e1, e0, ea⟩ := ahead_N m
  have hw : mByte (mJ m 2 (20 * cu)) 0 = nI tn := by
    have z := h4.byte hf (t := 0) (by omega)
    rw [show 20 * cu + 0 / 8 = 20 * cu from rfl, show 0 % 8 = 0 from rfl] at z
    rw [z]
    show imB _ _ _ _ _ 0 = _
    rw [imB_0, byte1 h2]
  have hc : cu = 0 ∨ cu = 1 := by omega
  rcases hc with rfl | rfl
  · have v : mValid (mMt3 m) = 1 := img_valid fun t ht => by
      rw [mMt3_10 m ht, show t / 8 = 20 * 0 + t / 8 by omega, h4.byte hf ht]; rfl
    refine ⟨?_, fun z => by rw [v] at z; exact absurd z.1 (by decide)⟩
    rw [show 20 * 0 = 0 from rfl, e0] at hw
    have t0 := (nI_eq (by omega) (by omega)).mp hw
    unfold mCur
    refine cur_0 (n := (b1 + 256 - b0) % 256) v ea ?_
    rw [show 20 * (1 - 0) = 20 from rfl, e1] at h5
    rcases h5 with z | ⟨z1, -, z2⟩
    · have := (nI_eq (by omega) (by omega)).mp z; omega
    · have := (nI_eq (a := b1) (b := 0) (by omega) (by omega)).mp z2; omega
  · have v : mValid (mMt2 m) = 1 := img_valid fun t ht => by
      rw [mMt2_10 m ht, show 20 + t / 8 = 20 * 1 + t / 8 by omega, h4.byte hf ht]; rfl
    refine ⟨?_, fun z => by rw [v] at z; exact absurd z.2 (by decide)⟩
    rw [show 20 * 1 = 20 from rfl, e1] at hw
    have t0 := (nI_eq (by omega) (by omega)).mp hw
    unfold mCur
    refine cur_1 v ?_
    rw [ea]
    rw [show 20 * (1 - 1) = 0 from rfl, e0] at h5
    rcases h5 with z | ⟨-, z, -⟩
    · have := (nI_eq (by omega) (by omega)).mp z
      rw [show (b1 + 256 - b0) % 256 = 1 by omega]; rfl
    · exact absurd z (by decide)
theorem Disk.MIm {m : MM} {cu tn : Nat} (h : Disk (mJ m 2) cu tn) : ∃ nm L ch nx, DOk nm L ch nx ∧ MIm (mMt5 m) L ch ∧ ∀ t, t < 160 → mA (mMt5 m) 10 t = DDr (nI tn) nm L ch nx t := by
  have hc := h.cur.1
  obtain ⟨h1, h2, ⟨nm, L, ch, nx, h3, h4⟩, h5⟩ := h
  obtain ⟨f, hf⟩ := DDr_byt (nI tn) nm L ch nx
  have key : ∀ t, t < 160 → mA (mMt5 m) 10 t = DDr (nI tn) nm L ch nx t := fun t ht => by
    rw [mMt5_10 m ht, hc, h4.byte hf ht]
  exact ⟨nm, L, ch, nx, h3, img_MIm key h3, key⟩
/-! image writes -/
theorem mWrite_J2 {g : MM} (h : PW g) (p : Nat) (v : Int64) (q : Nat) : mJ (mWrite g p v) 2 q = if q = p then v else mJ g 2 q := by
  rw [mWrite_pw h]; rfl
theorem mWrite_J2' (g : MM) (p : Nat) (v : Int64) {q : Nat} (hq : q ≠ p) : mJ (mWrite g p v) 2 q = mJ g 2 q := by
  unfold mWrite; split
  · rfl
  · split
    · rw [mGoes_J]
    · show vp_updL (mJ (mGoes g (nI p)) 2) p v q = _
      rw [updL_at, if_neg hq, mGoes_J]
theorem mWrN_onb {g : MM} {ot : Nat} : ∀ t, ¬ mI (mWrN g ot t) 4 = 0 → ∀ s, s ≤ t → ¬ mI (mWrN g ot s) 4 = 0 := fun t h s hs z => h (by rw [mWrN_end z hs]; exact z)
theorem on_PW {g : MM} {p : Nat} {v : Int64} (h : ¬ mI (mWrite g p v) 4 = 0) : PW g := by
  refine ⟨fun z => h ?_, fun z => h ?_⟩
  · rw [mWrite_off z]; exact z
  · by_cases y : mI g 4 = 0
    · rw [mWrite_off y]; exact y
    · rw [mWrite_no y z]; rfl
theorem mWrN_J2 (g : MM) (ot : Nat) : ∀ t, t ≤ 20 → ¬ mI (mWrN g ot t) 4 = 0 → (∀ s, 1 ≤ s → s ≤ t → mJ (mWrN g ot t) 2 (20 * ot + s % 20) = wdD (mA g 10) (s % 20) 8 0) ∧ ∀ q, (∀ s, 1 ≤ s → s ≤ t → 20 * ot + s % 20 ≠ q) → mJ (mWrN g ot t) 2 q = mJ g 2 q
  | 0, _, _ => ⟨fun s a b => by omega, fun _ _ => rfl⟩
  | t + 1, ht, h => by
    have h' : ¬ mI (mWrN g ot t) 4 = 0 := mWrN_onb (t + 1) h t (by omega)
    have ih := mWrN_J2 g ot t (by omega) h'
    rw [mWrN] at h
    have pw := on_PW h
    have e10 : mBits (mWrN g ot t) ((t + 1) % 20) = wdD (mA g 10) ((t + 1) % 20) 8 0 := by rw [mBits_wd, mWrN_A]
    refine ⟨fun s a b => ?_, fun q hq => ?_⟩
    · rw [mWrN, mWrite_J2 pw, e10]
      by_cases e : s = t + 1
      · rw [e, if_pos rfl]
      · rw [if_neg (by omega)]; exact ih.1 s a (by omega)
    · rw [mWrN, mWrite_J2 pw, if_neg (fun z => hq (t + 1) (by omega) (by omega) z.symm)]
      exact ih.2 q (fun s a b => hq s a (by omega))
theorem mWrN_0 {g : MM} {ot : Nat} (h : mI g 4 = 0) (t : Nat) : mWrN g ot t = g := by
  have := mWrN_off (g := g) (ot := ot) (t := 0) h t; rwa [Nat.zero_add] at this
/-- what is on the disk when power fails while an image is written -/
theorem mWrN_torn (g : MM) (ot : Nat) : ∀ t, t ≤ 20 → ¬ mI g 4 = 0 → mI (mWrN g ot t) 4 = 0 → ∃ s, s < t ∧ ¬ mI (mWrN g ot s) 4 = 0 ∧ mJ (mWrN g ot t) 2 = mJ (mWrN g ot s) 2
  | 0, _, h, h0 => absurd h0 h
  | t + 1, ht, h, h0 => by
    by_cases e : mI (mWrN g ot t) 4 = 0
    · obtain ⟨s, a, b, d⟩ := mWrN_torn g ot t (by omega) h e
      exact ⟨s, by omega, b, by rw [mWrN_end e (show t ≤ t + 1 by omega)]; exact d⟩
    · refine ⟨t, by omega, e, ?_⟩
      have e3 : mI (mWrN g ot t) 3 = 0 := by
        by_cases z : mI (mWrN g ot t) 3 = 0
        · exact z
        · exact absurd h0 (by rw [mWrN]; exact mWrite_onP ⟨e, z⟩ _ _)
      rw [mWrN, mWrite_no e e3]; rfl
