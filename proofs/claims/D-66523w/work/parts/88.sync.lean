/-! the box: sync; printed by tools/m88.py -/
/-- all that holds while it is mounted and on -/
def Al (c : CC) (lp : Nat → Nat) (g : MM) (fo : Nat → Option Nat) (L : Nat → Nat) (ch : Nat → Nat → Nat) (cu tn q qa : Nat) (ap zq za : Nat → Nat) : Prop := R0 c lp g ∧ R1 c g fo L ch ∧ RC c g cu tn ∧ RS c ∧ RQ c g q qa ap zq za
theorem Al.tw {c c' : CC} {lp : Nat → Nat} {g g' : MM} {fo : Nat → Option Nat} {L : Nat → Nat} {ch : Nat → Nat → Nat} {cu tn q qa : Nat} {ap zq za : Nat → Nat} {f j : Nat} (h : Al c lp g fo L ch cu tn q qa ap zq za) (hf : f < 8) (hj : fo f = some j) (t : TW j c c') (u : TmW f g g') (r : R0 c' lp g') (hW : RW c' g' j f) : Al c' lp g' fo L ch cu tn q qa ap zq za :=
  ⟨r, h.2.1.tw hf hj t u hW, h.2.2.1.tw t u, h.2.2.2.1.tw t, h.2.2.2.2.tw t u⟩
theorem Al.tr {c c' : CC} {lp : Nat → Nat} {g g' : MM} {fo : Nat → Option Nat} {L : Nat → Nat} {ch : Nat → Nat → Nat} {cu tn q qa : Nat} {ap zq za : Nat → Nat} (h : Al c lp g fo L ch cu tn q qa ap zq za) (t : Tr c c') (u : Tm g g') (r : R0 c' lp g') : Al c' lp g' fo L ch cu tn q qa ap zq za :=
  ⟨r, h.2.1.tr t u, h.2.2.1.tr t u, h.2.2.2.1.tr t, h.2.2.2.2.tr t u⟩
/-- the image is made -/
theorem Al.make {c : CC} {lp : Nat → Nat} {g : MM} {fo : Nat → Option Nat} {L : Nat → Nat} {ch : Nat → Nat → Nat} {cu tn q qa : Nat} {ap zq za : Nat → Nat} (h : Al c lp g fo L ch cu tn q qa ap zq za) (x : Int32) (i : Nat) (A : Nat → Int32) : Al (sA c 12 i A) lp (mMake g L ch x) fo L ch cu tn q qa ap zq za := by
  have ho := mMake_o g L ch x
  have hA : ∀ j, j ≠ 10 → j ≠ 11 → mA (mMake g L ch x) j = mA g j := fun j a b => mMake_A' g L ch x a b
  have hc := Core.make g L ch x
  generalize mMake g L ch x = g1 at ho hA hc ⊢
  have eA : ∀ k, k ≠ 12 → cA (sA c 12 i A) k = cA c k := fun k hk => by funext i'; rw [cA_A, if_neg hk]
  refine ⟨(h.1.core hc).of rfl ⟨rfl, rfl⟩ (fun _ _ => rfl) rfl (eA 5 (by decide)) rfl (fun _ _ => rfl) rfl rfl rfl, h.2.1.of rfl rfl (fun _ _ _ => rfl) rfl (fun k _ h2 => eA k (by omega)) (fun k _ h2 => hA k (by omega) (by omega)) (by rw [ho.2.2]), h.2.2.1.of rfl rfl (by rw [ho.1]) (by rw [ho.1]), h.2.2.2.1.of rfl rfl rfl, h.2.2.2.2.of rfl rfl rfl (fun _ _ _ => rfl) ⟨rfl, rfl⟩ ⟨by rw [ho.1], by rw [ho.1]⟩ ⟨hA 12 (by decide) (by decide), hA 13 (by decide) (by decide)⟩ ⟨by rw [ho.2.2], by rw [ho.2.2]⟩⟩
/-- current, turn and held behind a sync -/
theorem Al.fin {c : CC} {lp : Nat → Nat} {g : MM} {fo : Nat → Option Nat} {L : Nat → Nat} {ch : Nat → Nat → Nat} {cu tn q qa : Nat} {ap zq za : Nat → Nat} (h : Al c lp g fo L ch cu tn q qa ap zq za) {cu' tn' : Nat} (h1 : cu' < 2) (h2 : tn' < 256) : Al (cHoldN (sI (sI c 5 0 (nI cu')) 6 0 (nI tn')) 101) lp (mHoldN (smI (smI g 6 (nI cu')) 7 (nI tn')) L 101) fo L ch cu' tn' q qa ap zq za := by
  have e5 : ∀ k, k ≠ 5 → k ≠ 6 → cI (sI (sI c 5 0 (nI cu')) 6 0 (nI tn')) k = cI c k := fun k a b => by funext i; rw [cI_I, if_neg b, cI_I, if_neg a]
  have f5 : ∀ k, k ≠ 6 → k ≠ 7 → mI (smI (smI g 6 (nI cu')) 7 (nI tn')) k = mI g k := fun k a b => by rw [mI_I, if_neg b, mI_I, if_neg a]
  have hr : R1 (sI (sI c 5 0 (nI cu')) 6 0 (nI tn')) (smI (smI g 6 (nI cu')) 7 (nI tn')) fo L ch := h.2.1.of rfl rfl (fun k a _ => e5 k (by omega) (by omega)) rfl (fun _ _ _ => rfl) (fun _ _ _ => rfl) rfl
  have hh := hr.hold
  have hc := cHoldN_o (sI (sI c 5 0 (nI cu')) 6 0 (nI tn')) 101
  have hm := mHoldN_o (smI (smI g 6 (nI cu')) 7 (nI tn')) L 101
  generalize cHoldN (sI (sI c 5 0 (nI cu')) 6 0 (nI tn')) 101 = c1 at hh hc ⊢
  generalize mHoldN (smI (smI g 6 (nI cu')) 7 (nI tn')) L 101 = g1 at hh hm ⊢
  refine ⟨h.1.of (by rw [hc.2.2.1]; rfl) ⟨by rw [hc.2.2.2.1]; rfl, by rw [hc.2.2.2.1]; rfl⟩ (fun k hk => by rw [hc.1]; exact e5 k (by omega) (by omega)) (by rw [hc.2.1]; rfl) (by rw [hc.2.2.2.2.2 5 (by decide)]; rfl) (by rw [hc.2.2.2.2.1]; rfl) (fun k hk => by rw [hm.1]; exact f5 k (by omega) (by omega)) (by rw [hm.2.1]; rfl) (by rw [hm.2.2.2 1 (by decide)]; rfl) (by rw [hm.2.2.1]; rfl), hh, ?_, h.2.2.2.1.of (by rw [hc.2.2.1]; rfl) (by rw [hc.2.2.2.1]; rfl) (by rw [hc.1]; exact e5 8 (by decide) (by decide)), ?_⟩
  · unfold RC; rw [hc.1, hm.1]
    exact ⟨rfl, rfl, h1, rfl, rfl, h2⟩
  · exact h.2.2.2.2.of (by rw [hc.2.2.1]; rfl) (by rw [hc.2.2.2.1]; rfl) (by rw [hc.1]; exact e5 8 (by decide) (by decide)) (fun k a _ => by rw [hc.1]; exact e5 k (by omega) (by omega)) ⟨by rw [hc.2.1]; rfl, by rw [hc.2.1]; rfl⟩ ⟨by rw [hm.1]; exact f5 8 (by decide) (by decide), by rw [hm.1]; exact f5 9 (by decide) (by decide)⟩ ⟨by rw [hm.2.2.2 12 (by decide)]; rfl, by rw [hm.2.2.2 13 (by decide)]; rfl⟩ ⟨by rw [hm.2.2.1]; rfl, by rw [hm.2.2.1]; rfl⟩
theorem c_Box_syncS (l : Launch) (G : GG) (a : AD) (c : CC) (m : MM) (o : OO) (lp : Nat → Nat) (g : MM) (fo : Nat → Option Nat) (L : Nat → Nat) (ch : Nat → Nat → Nat) (cu tn q qa : Nat) (ap zq za : Nat → Nat) (hm : ¬ cMtd c = 0) (hA : Al c lp g fo L ch cu tn q qa ap zq za) (hon : ¬ mI g 4 = 0) (hmp : mI g 1 = 1) : CT l G y_Box_sync (.code y_Box_sync b_Box_sync 5 (some .int)) 10 28 168 (Fyes G) (wld G a c m o) [.ref (a 0 0)] (fun r w2 => ∃ c', R0 c' lp (mSaveAll g L ch cu tn) ∧ RS c' ∧ cI c' 0 0 = cI c 0 0 ∧ w2 = wld G a c' m o ∧ ((r = .inl (some (.int (mL (mSaveAll g L ch cu tn) 0 - mL g 0).toInt32)) ∧ ¬ mI (mSaveAll g L ch cu tn) 4 = 0 ∧ Al c' lp (mSaveAll g L ch cu tn) fo L ch (1 - cu) ((tn + 1) % 256) q qa ap zq za) ∨ (r = .inr 0 ∧ mI (mSaveAll g L ch cu tn) 4 = 0))) := by
  refine CT.of (by decide) (Nat.le_of_ble_eq_true rfl) rfl ?_
  intro E hl hG hF C r hw hex hnm
  subst hl; subst hG
  have Fw : Cw E := fun a h => by rw [hF]; exact h
  have lp_ : ∀ (n t : Nat) (c1 : CC), 8 - t < n → t ≤ 8 → (Al c1 lp (mSaveN g t) fo L ch cu tn q qa ap zq za ∧ cI c1 0 0 = cI c 0 0 ∧ ¬ mI (mSaveN g t) 4 = 0) → AW E false t (6 * t) (wld (eG E) a c1 m o) 17 [(0, .ref (a 0 0)), (1, .long (cL c 0 0)), (3, .int (nI t))] [] := by
    intro n
    induction n with
    | zero => intro t c1 h1 h2 hx; omega
    | succ n ih =>
      intro t c1 h1t h2t hx
      refine aw_iload_n (i := 3) C (dec D_Box_sync rfl) rfl rfl ?_
      refine aw_bipush (v := 8) C (dec D_Box_sync rfl) (by decide) ?_
      refine aw_icmp_ge (tgt := 60) C (dec D_Box_sync rfl) (by decide) (fun hb => ?_) (fun hb => ?_)
      · have e9 : t = 8 := by have := ix_ge (N := 8) hb; omega
        subst e9
        obtain ⟨hA1, h01, on1⟩ := hx
        obtain ⟨e5, -, hcu, e6, -, htn⟩ := hA1.2.2.1
        have h10 := hA1.2.2.2.1.2.2.2.1 (1 - cu) (by omega)
        refine aw_iconst (v := 1) C (dec D_Box_sync rfl) (by decide) ?_
        refine aw_aload_n (i := 0) C (dec D_Box_sync rfl) rfl rfl ?_
        refine gf_Box_34 C (dec D_Box_sync rfl) ?_
        refine gf_Box_111 C (dec D_Box_sync rfl) ?_
        rw [e5]
        refine aw_isub C (dec D_Box_sync rfl) ?_
        rw [show (1 : Int32) - nI cu = nI (1 - cu) from pk_sub (a := 1) (by omega)]
        refine aw_istore_n (i := 3) C (dec D_Box_sync rfl) rfl (by decide) ?_
        refine aw_aload_n (i := 0) C (dec D_Box_sync rfl) rfl rfl ?_
        refine gf_Box_34 C (dec D_Box_sync rfl) ?_
        refine gf_Box_114 C (dec D_Box_sync rfl) ?_
        rw [e6]
        refine aw_iconst (v := 1) C (dec D_Box_sync rfl) (by decide) ?_
        refine aw_iadd C (dec D_Box_sync rfl) ?_
        rw [nI_1]
        refine aw_sipush (v := 256) C (dec D_Box_sync rfl) (by decide) ?_
        refine aw_irem C (dec D_Box_sync rfl) (by decide) ?_
        rw [show nI (tn + 1) - nI (tn + 1) / 256 * 256 = nI ((tn + 1) % 256) from pk_rem (d := 256) (by omega) (by omega) (by omega)]
        refine aw_istore C (dec D_Box_sync rfl) (by decide) ?_
        refine aw_aload_n (i := 0) C (dec D_Box_sync rfl) rfl rfl ?_
        refine gf_Box_41 C (dec D_Box_sync rfl) ?_
        refine aw_iload_n (i := 3) C (dec D_Box_sync rfl) rfl rfl ?_
        have hmn := mSaveN_I g (k := 1) (by decide) (by decide) (by decide) 8
        have hAm := fun A => hA1.make (nI ((tn + 1) % 256)) (1 - cu) A
        have him := fun t (ht : t < 160) => hA1.2.1.img (nI ((tn + 1) % 256)) ht
        have ho2 := mMake_o (mSaveN g 8) L ch (nI ((tn + 1) % 256))
        have hsa := mSaveAll_eq g L ch cu tn
        have hco := Core.sy4 g L ch cu tn
        rw [mSy4, mSy3, mSy2] at hsa
        rw [mSy3, mSy2] at hco
        generalize mMake (mSaveN g 8) L ch (nI ((tn + 1) % 256)) = g2 at hAm him ho2 hsa hco
        refine al_C10 C (1 - cu) (dec D_Box_sync rfl) (ix_of (by omega)) ?_
        rw [h10]
        refine aw_aload_n (i := 0) C (dec D_Box_sync rfl) rfl rfl ?_
        refine gf_Box_34 C (dec D_Box_sync rfl) ?_
        refine aw_iload C (dec D_Box_sync rfl) rfl ?_
        refine aw_cv C ci_Box_202 [_, _] (c_Img_pack _ _ _ _ _ _ (1 - cu) _ fo _ _ _ (by omega) hA1.2.1.1 hA1.2.1.ent) (dec D_Box_sync rfl) (rcI (by omega)) rfl (fpW Fw) (Nat.le_of_ble_eq_true rfl) (by decide) ⟨by decide, by decide⟩ (fun v w2 hp => ?_) (fun _ _ h => by cases h.1)
        obtain ⟨hv, rfl⟩ := hp
        cases hv
        have hAn := hAm (cPk (cA c1 12 (1 - cu)) (nI ((tn + 1) % 256)) (mA (mSaveN g 8) 3) (fun f => if pg (L f) = 0 then 0 else nI (ch f 0)) (fun f => nI (L f)) (cA c1 7 0))
        have hbt : ∀ t, t < 160 → cA (sA c1 12 (1 - cu) (cPk (cA c1 12 (1 - cu)) (nI ((tn + 1) % 256)) (mA (mSaveN g 8) 3) (fun f => if pg (L f) = 0 then 0 else nI (ch f 0)) (fun f => nI (L f)) (cA c1 7 0))) 12 (1 - cu) t = mA g2 10 t := fun t ht => by rw [cA_self, cPk_at _ _ _ _ _ _ ht, him t ht]; rfl
        have h02 : cI (sA c1 12 (1 - cu) (cPk (cA c1 12 (1 - cu)) (nI ((tn + 1) % 256)) (mA (mSaveN g 8) 3) (fun f => if pg (L f) = 0 then 0 else nI (ch f 0)) (fun f => nI (L f)) (cA c1 7 0))) 0 0 = cI c 0 0 := h01
        generalize sA c1 12 (1 - cu) (cPk (cA c1 12 (1 - cu)) (nI ((tn + 1) % 256)) (mA (mSaveN g 8) 3) (fun f => if pg (L f) = 0 then 0 else nI (ch f 0)) (fun f => nI (L f)) (cA c1 7 0)) = c2 at hAn hbt h02 ⊢
        have h10b := hAn.2.2.2.1.2.2.2.1 (1 - cu) (by omega)
        refine aw_aload_n (i := 0) C (dec D_Box_sync rfl) rfl rfl ?_
        refine gf_Box_41 C (dec D_Box_sync rfl) ?_
        refine aw_iload_n (i := 3) C (dec D_Box_sync rfl) rfl rfl ?_
        refine al_C10 C (1 - cu) (dec D_Box_sync rfl) (ix_of (by omega)) ?_
        rw [h10b]
        refine aw_aload_n (i := 0) C (dec D_Box_sync rfl) rfl rfl ?_
        refine gf_Box_27 C (dec D_Box_sync rfl) ?_
        refine aw_iload_n (i := 3) C (dec D_Box_sync rfl) rfl rfl ?_
        refine aw_cv C ci_Box_206 [_, _] (c_Img_writeS _ _ a c2 m o (1 - cu) lp g2 (by omega) hAn.1 (by rw [ho2.1]; exact on1) (by rw [ho2.1, hmn]; exact hmp) hbt) (dec D_Box_sync rfl) (rcI (by omega)) rfl (fpW Fw) (Nat.le_of_ble_eq_true rfl) (by decide) ⟨by decide, by decide⟩ (fun v w2 hp => ?_) (fun n w2 hp => by obtain ⟨c3, t3, r3, hv, rfl⟩ := hp; obtain ⟨rfl, off3⟩ := hv.thr; exact at_leave C r hex (by decide) (by decide) ⟨c3, r3.core hco, hAn.2.2.2.1.tr t3, by rw [t3.2.2.2.1 0 (by decide) (by decide) (by decide)]; exact h02, rfl, .inr ⟨rfl, (hco.1 4 (by omega)).trans off3⟩⟩)
        obtain ⟨c3, t3, r3, hv, rfl⟩ := hp
        obtain ⟨hv, on3⟩ := hv.ret
        subst hv
        have hA3 := (hAn.tr t3 (Tm.wrN g2 (1 - cu) 20) r3).fin (cu' := 1 - cu) (tn' := (tn + 1) % 256) (by omega) (Nat.mod_lt _ (by decide))
        rw [← hsa] at hA3
        have hu : ∀ t, t < 101 → B01 (cA c3 8 0 t) := fun t ht => by rw [((hAn.tr t3 (Tm.wrN g2 (1 - cu) 20) r3).2.1.2.2.2.2.2 t ht).1]; exact bI_bz _
        refine aw_aload_n (i := 0) C (dec D_Box_sync rfl) rfl rfl ?_
        refine gf_Box_34 C (dec D_Box_sync rfl) ?_
        refine aw_iload_n (i := 3) C (dec D_Box_sync rfl) rfl rfl ?_
        refine pf_Box_111 C Fw (dec D_Box_sync rfl) ?_
        refine aw_aload_n (i := 0) C (dec D_Box_sync rfl) rfl rfl ?_
        refine gf_Box_34 C (dec D_Box_sync rfl) ?_
        refine aw_iload C (dec D_Box_sync rfl) rfl ?_
        refine pf_Box_114 C Fw (dec D_Box_sync rfl) ?_
        refine aw_aload_n (i := 0) C (dec D_Box_sync rfl) rfl rfl ?_
        refine gf_Box_34 C (dec D_Box_sync rfl) ?_
        refine aw_cv C ci_Box_209 [] (c_Dir_hold _ _ _ _ _ _ (by exact hu)) (dec D_Box_sync rfl) rcD rfl (fpW Fw) (Nat.le_of_ble_eq_true rfl) (by decide) ⟨by decide, by decide⟩ (fun v w2 hp => ?_) (fun _ _ h => by cases h.1)
        obtain ⟨hv, rfl⟩ := hp
        cases hv
        refine aw_aload_n (i := 0) C (dec D_Box_sync rfl) rfl rfl ?_
        refine gf_Box_18 C (dec D_Box_sync rfl) ?_
        refine gf_Box_97 C (dec D_Box_sync rfl) ?_
        have hst := hA3.1.2.2.2.1
        have hst0 := hA.1.2.2.2.1
        have h03 : cI (cHoldN (sI (sI c3 5 0 (nI (1 - cu))) 6 0 (nI ((tn + 1) % 256))) 101) 0 0 = cI c 0 0 := by rw [(cHoldN_o _ 101).1]; show cI c3 0 0 = _; rw [t3.2.2.2.1 0 (by decide) (by decide) (by decide)]; exact h02
        generalize cHoldN (sI (sI c3 5 0 (nI (1 - cu))) 6 0 (nI ((tn + 1) % 256))) 101 = c4 at hA3 hst h03 ⊢
        rw [hst, hst0]
        refine aw_lload_n (i := 1) C (dec D_Box_sync rfl) rfl rfl ?_
        refine aw_lsub C (dec D_Box_sync rfl) ?_
        refine aw_l2i C (dec D_Box_sync rfl) ?_
        refine aw_ret_i C r (dec D_Box_sync rfl) rfl (by decide) (by decide) ?_
        exact ⟨c4, hA3.1, hA3.2.2.2.1, h03, rfl, .inl ⟨rfl, fun z => on3 ((hco.1 4 (by omega)).symm.trans z), hA3⟩⟩
      · have htt : t < 8 := ix_lt (N := 8) hb
        obtain ⟨hA1, h01, on1⟩ := hx
        have hf := hA1.2.1.1 t htt
        refine aw_aload_n (i := 0) C (dec D_Box_sync rfl) rfl rfl ?_
        refine gf_Box_34 C (dec D_Box_sync rfl) ?_
        refine gf_Box_74 C (dec D_Box_sync rfl) ?_
        refine aw_iload_n (i := 3) C (dec D_Box_sync rfl) rfl rfl ?_
        refine al_C6 C t (dec D_Box_sync rfl) (ix_of htt) ?_
        rw [hf.1]
        cases hz : fo t with
        | none =>
          refine aw_ifnullN (tgt := 54) C (dec D_Box_sync rfl) (by decide) ?_
          refine aw_iinc C (dec D_Box_sync rfl) rfl (nI_inc t) (by decide) ?_
          refine aw_goto (tgt := 17) C (dec D_Box_sync rfl) (by decide) ?_
          have e8 : mSaveN g (t + 1) = mSaveN g t := by rw [mSaveN]; exact mSave_no ((hA1.2.1.2.2.1 t htt).1 hz).2.2
          exact AW.widen (by omega) (by omega) (ih (t + 1) c1 (by omega) (by omega) (by rw [e8]; exact ⟨hA1, h01, on1⟩))
        | some j =>
          have hj := hf.2 j hz
          have hW := ((hA1.2.1.2.2.1 t htt).2 j hz).2
          refine aw_ifnull C (dec D_Box_sync rfl) ?_
          refine aw_aload_n (i := 0) C (dec D_Box_sync rfl) rfl rfl ?_
          refine gf_Box_34 C (dec D_Box_sync rfl) ?_
          refine gf_Box_74 C (dec D_Box_sync rfl) ?_
          refine aw_iload_n (i := 3) C (dec D_Box_sync rfl) rfl rfl ?_
          refine al_C6 C t (dec D_Box_sync rfl) (ix_of htt) ?_
          rw [hf.1, hz]
          refine gf_Box_159 C hj (dec D_Box_sync rfl) ?_
          refine aw_aload_n (i := 0) C (dec D_Box_sync rfl) rfl rfl ?_
          refine gf_Box_27 C (dec D_Box_sync rfl) ?_
          refine aw_cv C ci_Box_174 [_] (s_save _ _ a c1 m o j t lp (mSaveN g t) hj hA1.1 on1 (by rw [mSaveN_I g (by decide) (by decide) (by decide)]; exact hmp) hW) (dec D_Box_sync rfl) (rcW hj) rfl (fpW Fw) (Nat.le_of_ble_eq_true rfl) (by decide) ⟨by show t + 1 ≤ 28; omega, by show 6 * t + 6 ≤ 168; omega⟩ (fun v w2 hp => ?_) (fun n w2 hp => by obtain ⟨c2, t2, r2, -, hv, rfl⟩ := hp; obtain ⟨rfl, off2⟩ := hv.thr; have hc : Core (mSave (mSaveN g t) t) (mSaveAll g L ch cu tn) := sync_off (t := t + 1) (by omega) off2; exact at_leave C r hex (by omega) (by omega) ⟨c2, r2.core hc, hA1.2.2.2.1.tw t2, (t2.2.2.2.1 0 0 (by decide) (by decide) (by decide) (.inl ⟨by decide, by decide⟩)).trans h01, rfl, .inr ⟨rfl, (hc.1 4 (by omega)).trans off2⟩⟩)
          obtain ⟨c2, t2, r2, w2, hv, rfl⟩ := hp
          obtain ⟨hv, on2⟩ := hv.ret
          subst hv
          refine aw_iinc C (dec D_Box_sync rfl) rfl (nI_inc t) (by decide) ?_
          refine aw_goto (tgt := 17) C (dec D_Box_sync rfl) (by decide) ?_
          exact AW.widen (by omega) (by omega) (ih (t + 1) c2 (by omega) (by omega) ⟨hA1.tw htt hz t2 (TmW.save t _) r2 (w2 on2), (t2.2.2.2.1 0 0 (by decide) (by decide) (by decide) (.inl ⟨by decide, by decide⟩)).trans h01, on2⟩)
  refine aw_aload_n (i := 0) C (dec D_Box_sync rfl) rfl rfl ?_
  refine aw_cv C ci_Box_62 [] (c_Box_isMounted _ _ _ _ _ _) (dec D_Box_sync rfl) rcB rfl fpP (Nat.le_of_ble_eq_true rfl) (by decide) ⟨by decide, by decide⟩ (fun v w2 hp => ?_) (fun _ _ h => by cases h.1)
  obtain ⟨hv, rfl⟩ := hp
  cases hv
  refine aw_cs C ci_Box_66 [_] (c_Box_want1 _ _ _ _ _ _ _ hm) (dec D_Box_sync rfl) rfl fpP (Nat.le_of_ble_eq_true rfl) (by decide) ⟨by decide, by decide⟩ (fun v w2 hp => ?_) (fun _ _ h => by cases h.1)
  obtain ⟨hv, rfl⟩ := hp
  cases hv
  refine aw_aload_n (i := 0) C (dec D_Box_sync rfl) rfl rfl ?_
  refine gf_Box_18 C (dec D_Box_sync rfl) ?_
  refine gf_Box_97 C (dec D_Box_sync rfl) ?_
  refine aw_lstore_n (i := 1) C (dec D_Box_sync rfl) rfl (by decide) ?_
  refine aw_iconst (v := 0) C (dec D_Box_sync rfl) (by decide) ?_
  refine aw_istore_n (i := 3) C (dec D_Box_sync rfl) rfl (by decide) ?_
  refine AW.ls [(0, .ref (a 0 0)), (1, .long (cL c 0 0)), (3, .int (nI 0))] rfl ?_
  exact AW.impure (lp_ 9 0 c (by omega) (by omega) ⟨hA, rfl, hon⟩)
