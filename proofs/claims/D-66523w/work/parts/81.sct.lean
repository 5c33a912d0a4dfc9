/-! transfers and windows against the model; by hand -/
/-- it came through, or power failed, as the model says -/
def Out (g : MM) (r : Rs) (v : Option Value) : Prop := (r = .inl v ∧ ¬ mI g 4 = 0) ∨ (r = .inr 0 ∧ mI g 4 = 0)
theorem s_Ctl_write (l : Launch) (G : GG) (a : AD) (c : CC) (m : MM) (o : OO) (p : Nat) (v : Int64) (lp : Nat → Nat) (g : MM) (hp1 : p < 101) (h : R0 c lp g) (hon : ¬ mI g 4 = 0) (hmp : mI g 1 = 1) :
    CT l G y_Ctl_write (.code y_Ctl_write b_Ctl_write 4 none) 8 1 6 (Fyes G) (wld G a c m o) [.ref (a 2 0), .int (nI p), .long v] (fun r w2 => ∃ c1, Tr c c1 ∧ R0 c1 lp (mWrite g p v) ∧ Out (mWrite g p v) r none ∧ w2 = wld G a c1 m o) := by
  obtain ⟨mp, hD⟩ := h.2.2.2.2.2.2.2 hmp
  have h3 := h.2.2.2.2.1
  by_cases e : mI g 3 = 0
  · exact (c_Ctl_write0 l G a c m o (nI p) v (h3.trans e)).mono fun r w' hr => ⟨cOff c, Tr.off c, (h.wr0 hon e p v).1, .inr ⟨hr.1, (h.wr0 hon e p v).2⟩, hr.2⟩
  · exact (c_Ctl_write1 l G a c m o p v lp mp _ (fun z => e (h3 ▸ z)) hp1 h.1 hD).weak (by decide) (by decide) (by decide) F_id fun r w' hr => ⟨_, Tr.wr c lp mp p v _, h.wr ⟨hon, e⟩ hD hp1 v, .inl ⟨hr.1, mWrite_onP ⟨hon, e⟩ p v⟩, hr.2⟩
theorem s_Ctl_read (l : Launch) (G : GG) (a : AD) (c : CC) (m : MM) (o : OO) (p : Nat) (lp : Nat → Nat) (g : MM) (hp1 : p < 101) (h : R0 c lp g) (hon : ¬ mI g 4 = 0) (hmp : mI g 1 = 1) :
    CT l G y_Ctl_read (.code y_Ctl_read b_Ctl_read 2 (some .long)) 8 1 6 (Fyes G) (wld G a c m o) [.ref (a 2 0), .int (nI p)] (fun r w2 => ∃ c1, Tr c c1 ∧ R0 c1 lp (mRead g p) ∧ Out (mRead g p) r (some (.long (mReadR g p))) ∧ w2 = wld G a c1 m o) := by
  obtain ⟨mp, hD⟩ := h.2.2.2.2.2.2.2 hmp
  have h3 := h.2.2.2.2.1
  by_cases e : mI g 3 = 0
  · exact (c_Ctl_read0 l G a c m o (nI p) (h3.trans e)).mono fun r w' hr => ⟨cOff c, Tr.off c, (h.rd0 hon e p).1, .inr ⟨hr.1, (h.rd0 hon e p).2⟩, hr.2⟩
  · exact (c_Ctl_read1 l G a c m o p lp mp _ (fun z => e (h3 ▸ z)) hp1 h.1 hD).weak (by decide) (by decide) (by decide) F_id fun r w' hr => ⟨_, Tr.rd c _, h.rd ⟨hon, e⟩ hp1, .inl ⟨by rw [(mRead_pw ⟨hon, e⟩ p).2]; exact hr.1, mRead_on ⟨hon, e⟩ p⟩, hr.2⟩
theorem mSave_no {g : MM} {f : Nat} (e : mA g 8 f = 0) : mSave g f = g := by unfold mSave; rw [if_pos e]
theorem mSave_ch {g : MM} {f p : Nat} (e : ¬ mA g 8 f = 0) (h6 : mA g 6 f = nI p) (hp : p < 101) : mSave g f = mS (mWrite g p (mJ g 7 f)) 8 f 0 := by
  unfold mSave; rw [if_neg e, h6, nI_clamp (by omega)]
theorem nI_m1 {p : Nat} (hp : p < 101) : ¬ nI p = -1 := by
  have : ∀ q : Fin 101, ¬ nI q.1 = -1 := by decide +kernel
  exact this ⟨p, hp⟩
/-- what a save comes to -/
theorem RW.save {c c1 : CC} {g g1 : MM} {j f : Nat} (h : RW c g j f) (t : Tr c c1) (u : Tm g g1) : RW (sI c1 14 j 0) (mS g1 8 f 0) j f := by
  obtain ⟨a1, a2, a3, a4, a5⟩ := h
  have z8 : mA (mS g1 8 f 0) 8 f = 0 := by rw [mS, mA_A, if_pos rfl, upd_at, if_pos rfl]
  have z6 : mA (mS g1 8 f 0) 6 f = mA g 6 f := by rw [mS, mA_A, if_neg (by decide), u.1]
  refine ⟨?_, ?_, by rw [z8]; exact .inl rfl, ?_, fun z => absurd z8 z⟩
  · rw [cI_I, if_neg (by decide), z6, t.2.2.2.1 13 (by decide) (by decide) (by decide)]; exact a1
  · rw [cI_I, if_pos rfl, if_pos rfl, z8]
  · intro z
    rw [z6] at z
    show cL c1 1 j = mJ g1 7 f
    rw [t.2.2.2.2 1 (by decide), u.2.2 7 (by decide)]; exact a4 z
theorem s_save (l : Launch) (G : GG) (a : AD) (c : CC) (m : MM) (o : OO) (j f : Nat) (lp : Nat → Nat) (g : MM) (hj : j < cN c 17 0) (h : R0 c lp g) (hon : ¬ mI g 4 = 0) (hmp : mI g 1 = 1) (hW : RW c g j f) :
    CT l G y_Win_save (.code y_Win_save b_Win_save 2 none) 9 1 6 (Fyes G) (wld G a c m o) [.ref (a 18 j), .ref (a 2 0)] (fun r w2 => ∃ c1, TW j c c1 ∧ R0 c1 lp (mSave g f) ∧ (¬ mI (mSave g f) 4 = 0 → RW c1 (mSave g f) j f) ∧ Out (mSave g f) r none ∧ w2 = wld G a c1 m o) := by
  obtain ⟨mp, hD⟩ := h.2.2.2.2.2.2.2 hmp
  have h3 := h.2.2.2.2.1
  by_cases e8 : mA g 8 f = 0
  · rw [mSave_no e8]
    exact (c_Win_savei l G a c m o j hj (hW.2.1.trans e8)).weak (by decide) (by decide) (by decide) F_no fun r w' hr => ⟨c, (Tr.refl c).tw j, h, fun _ => hW, .inl ⟨hr.1, hon⟩, hr.2⟩
  · obtain ⟨p, p1, p2, h6⟩ := hW.2.2.2.2 e8
    have e14 : ¬ cI c 14 j = 0 := fun z => e8 (hW.2.1 ▸ z)
    rw [mSave_ch e8 h6 p2]
    by_cases e : mI g 3 = 0
    · refine (c_Win_save0 l G a c m o j hj e14 (h3.trans e)).mono fun r w' hr => ⟨cOff c, (Tr.off c).tw j, ?_, fun z => absurd (h.wr0 hon e p _).2 z, .inr ⟨hr.1, (h.wr0 hon e p _).2⟩, hr.2⟩
      exact (h.wr0 hon e p _).1.ofW (fun _ _ => rfl) rfl rfl rfl rfl rfl rfl rfl rfl rfl
    · have hc : cL c 1 j = mJ g 7 f := hW.2.2.2.1 (by rw [h6]; exact nI_m1 p2)
      have k := c_Ctl_write1 l G a c m o p (mJ g 7 f) lp mp _ (fun z => e (h3 ▸ z)) p2 h.1 hD
      rw [← hc, ← h6, ← hW.1] at k
      have t := Tr.wr c lp mp p (cL c 1 j) (cI c 13 j)
      have r0 := h.wr ⟨hon, e⟩ hD p2 (mJ g 7 f)
      rw [← hc, ← h6, ← hW.1] at r0
      have hjn : j < cN (cWrN (cTurn (cSpd c) (cI c 13 j)) lp mp p (cL c 1 j) 64) 17 0 := by rw [t.2.2.1]; exact hj
      rw [← hc]
      generalize cWrN (cTurn (cSpd c) (cI c 13 j)) lp mp p (cL c 1 j) 64 = c2 at k t r0 hjn
      refine (c_Win_save1 l G a c m o c2 j hj hjn e14 k).weak (by decide) (by decide) (by decide) F_id fun r w' hr => ⟨sI c2 14 j 0, (t.tw j).trans (TW.s14 j c2 0), ?_, fun _ => hW.save t (Tm.wr g p _), .inl ⟨hr.1, mWrite_onP ⟨hon, e⟩ p _⟩, hr.2⟩
      exact r0.ofW (fun k hk => by funext i; rw [cI_I, if_neg (by omega)]) rfl rfl rfl rfl rfl rfl rfl rfl rfl
