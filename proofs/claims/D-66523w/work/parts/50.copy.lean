/-! System.arraycopy between arrays of objects; classes as objects; by hand -/
section CPY
variable {E : EE} {cc : ByteArray} {own : String} {nL : Nat} {R : Room} {b : Bool} {cells slots : Nat} {w : Wd} {pc : Nat} {lv : List (Nat × Value)} {st : List Value}
theorem aw_copy (C : Cx E cc own nL R) (Fw : Cw E) {index : Nat} (hl : Cond.methodLink own index arraycopyName ∈ lw_tbl) (hnat : Cond.native arraycopyName ∈ lw_tbl) (hstat : Cond.static arraycopyName ∈ lw_tbl) (hini : Cond.initialized "java/lang/System" ∈ lw_tbl) (t0 : Nat) {cA : ClassId} {Cn : String} (ht : (tysOf (gA (eG E)))[t0]? = some (cA, .object Cn)) {k0 i0 k1 i1 a0 a1 n0 n1 n : Nat} {f g : Nat → Option Nat}
    (he0 : w k0 i0 = some (a0, .inl (cA, n0, .inr (.inr (.inr (.inr f)))))) (he1 : w k1 i1 = some (a1, .inl (cA, n1, .inr (.inr (.inr (.inr g)))))) (hn0 : n ≤ n0) (hn1 : n ≤ n1) (hn : n < 2 ^ 31) (hel : ∀ i, i < n → ∀ y, f i = some y → ∃ Cv, Rcv w y Cv ∧ Cond.castable Cv Cn ∈ lw_tbl) (d : decode cc pc = .ok (.invokestatic index, 3)) (hroom : 1 ≤ R.frames ∧ (st.map fun v => v.category).sum + (nativeFrameWords "java/lang/System" "arraycopy" 5 + 11) ≤ R.locals)
    (kk : AW E false cells slots (upW w k1 i1 (a1, .inl (cA, n1, .inr (.inr (.inr (.inr (va_cpy f g 0 0 n))))))) (pc + 3) lv st) : AW E b cells slots w pc lv (.int (nI n) :: .int 0 :: .ref a1 :: .int 0 :: .ref a0 :: st) := by
  intro H locs ls h1 h2 h3 h4 T hT X
  have hK := C.2.2.2.2.1
  have hR : eR E = R := C.2.2.2.2.2.2.2
  have hc0 := (h1.2.2.1 k0 i0 _ he0).2
  obtain ⟨hge, hc1⟩ := h1.2.2.1 k1 i1 _ he1
  obtain ⟨-, kA0, hkA0, cm0, hkk0⟩ := (hK.2.1.2 t0 _ ht).1 n0 (fun j => va_rf (f j))
  obtain ⟨-, kA1, hkA1, cm1, hkk1⟩ := (hK.2.1.2 t0 _ ht).1 n1 (fun j => va_rf (g j))
  have e0 : (0 : Int32).toNatClampNeg = 0 := by decide
  have en : (nI n).toNatClampNeg = n := nI_clamp hn
  obtain ⟨vm', X', step⟩ := X.arraycopy C.1 C.2.2.2.1 (hK.wm (A := eA E) hl rfl) (hK.wm (A := eA E) hnat rfl) (hK.wm (A := eA E) hstat rfl) (hK.wm (A := eA E) hini rfl) (src := a0) (dst := a1) (cs := vp_cell cA (n0, .inr (.inr (.inr (.inr f))))) (cd := vp_cell cA (n1, .inr (.inr (.inr (.inr g))))) (srcPos := 0) (destPos := 0) (n := nI n) (by rw [hT]; exact hc0) (by rw [hT]; exact hc1)
    (fun _ h => by cases h) (fun _ h => by cases h) (fun h => by cases h) (fun h => by cases h) hkA0 hkA1 hkk0 hkk1 rfl (by decide) (by decide) (nI_pos hn)
    (by rw [nI_toInt hn]; show ¬ _ > ((arrV cA n0 (fun j => va_rf (f j))).slots.size : Int); rw [arrV_size]; simp; omega)
    (by rw [nI_toInt hn]; show ¬ _ > ((arrV cA n1 (fun j => va_rf (g j))).slots.size : Int); rw [arrV_size]; simp; omega)
    (fun vm₁ hal i hi => by
      rw [en] at hi
      have e : (vp_cell cA (n0, .inr (.inr (.inr (.inr f))))).slots.getD ((0 : Int32).toNatClampNeg + i) .null = va_rf (f i) := by
        show (arrV cA n0 (fun j => va_rf (f j))).slots.getD _ _ = _
        rw [e0, Nat.zero_add, Array.getD_eq_getD_getElem?, arrV_read _ _ (by omega)]
        rfl
      rw [e]
      cases hy : f i with
      | none => exact ⟨rfl, trivial⟩
      | some y =>
        obtain ⟨Cv, hv, hca⟩ := hel i hi y hy
        obtain ⟨cv, v1, v2, v3⟩ := hv.cell h1 hK
        obtain ⟨kC, hkC⟩ := Vm.classAt_of_findClass v3
        obtain ⟨c3, c4, hc3, hc4, hasg⟩ := Cond.castable_spec (hK.wm (A := eA E) hca rfl)
        cases hc3.symm.trans v3
        obtain ⟨kA, comp, r1, r2, r3, -⟩ := (hK.2.1.2 t0 _ ht).2
        cases hc4.symm.trans r3
        cases hkA1.symm.trans r1
        cases hkk1.symm.trans r2
        obtain ⟨kE, hkE, -⟩ := Vm.findClass_spec r3
        obtain ⟨kC', hkC', -⟩ := hal.2.2 _ _ hkC
        obtain ⟨kE', hkE', -⟩ := hal.2.2 _ _ hkE
        refine ⟨rfl, cv, (show T.heap[y]? = some cv by rw [hT]; exact v1), (fun q h => by rw [h] at v2; cases v2), ⟨kC', hkC'⟩, ⟨kE', hkE'⟩, ?_⟩
        show vm₁.assignable _ _ = true
        rw [hal.assignable]
        exact hasg)
    (g := F0 (eM E) pc ls (.int (nI n) :: .int 0 :: .ref a1 :: .int 0 :: .ref a0 :: st)) rfl (by rw [h4.1]) (rest := st) rfl (by rw [C.2.1]; exact d) (by rw [hR]; exact hroom.1) (by rw [hR]; show 2 * 0 + _ + _ ≤ _; omega)
  have e1 : copied (vp_cell cA (n0, .inr (.inr (.inr (.inr f))))) (vp_cell cA (n1, .inr (.inr (.inr (.inr g))))) 0 0 (nI n) = vp_cell cA (n1, .inr (.inr (.inr (.inr (va_cpy f g 0 0 n))))) := by
    rw [vp_cell_q, vp_cell_q, vp_cell_q]
    have z := va_copied (fun z => va_rf z) cA cA (n0 := n0) (n1 := n1) (sp := 0) (dp := 0) (n := n) f g (by omega)
    unfold copied
    rw [e0, en]
    exact z
  rw [e1] at X' step
  have hlt : a1 < H.size := (Array.getElem?_eq_some_iff.mp hc1).1
  generalize hcell : vp_cell cA (n1, .inr (.inr (.inr (.inr (va_cpy f g 0 0 n))))) = cell at X' step
  have hheap : ((T.setVm vm').setCell a1 cell).heap = H.setIfInBounds a1 cell := by rw [← hT]; rfl
  have hat : (H.setIfInBounds a1 cell)[a1]? = some cell := by simp [Array.getElem?_setIfInBounds, hlt]
  subst hcell
  obtain ⟨t, z1, z2⟩ := kk _ _ ls (h1.put he1 hat (by simp) (fun q hq => by simp [Array.getElem?_setIfInBounds, Ne.symm hq])) (fun q hq => by
      rcases List.mem_append.mp hq with h | h
      · exact h2 q h
      · obtain ⟨z, -, hz⟩ := List.mem_map.mp h
        rw [← hz]
        exact Fw a1 hge) (fun h => by cases h) h4 _ hheap X'
  exact ⟨t, step t z1, z2⟩
theorem aw_ldcM (C : Cx E cc own nL R) {index : Nat} (hl : Cond.classLink own index "[Ljava/lang/Object;" ∈ lw_tbl) (d : decode cc pc = .ok (.ldc index, 2)) (kk : AW E b cells slots w (pc + 2) lv (.ref (gM (eG E)) :: st)) : AW E b cells slots w pc lv st := by
  intro H locs ls h1 h2 h3 h4
  have hK := C.2.2.2.2.1
  exact va_ldcM C.1 C.2.1 C.2.2.2.1 (hK.wm (A := eA E) hl rfl) hK.2.2.2.2.2.1 d (kk H locs ls h1 h2 h3 h4)
theorem aw_getC (C : Cx E cc own nL R) {index a k0 i0 n : Nat} {f : Nat → Option Nat} (hl : Cond.methodLink own index ⟨"java/lang/Object", "getClass", "()Ljava/lang/Class;"⟩ ∈ lw_tbl) (hdecl : Cond.declares ⟨"java/lang/Object", "getClass", "()Ljava/lang/Class;"⟩ ∈ lw_tbl) (hsel : Cond.selects "[Ljava/lang/Object;" ⟨"java/lang/Object", "getClass", "()Ljava/lang/Class;"⟩ ⟨"java/lang/Object", "getClass", "()Ljava/lang/Class;"⟩ ∈ lw_tbl) (hinst : Cond.instanceMethod ⟨"java/lang/Object", "getClass", "()Ljava/lang/Class;"⟩ ∈ lw_tbl) (hnat : Cond.native ⟨"java/lang/Object", "getClass", "()Ljava/lang/Class;"⟩ ∈ lw_tbl)
    (he : w k0 i0 = some (a, .inl (gA (eG E) 6, n, .inr (.inr (.inr (.inr f)))))) (d : decode cc pc = .ok (.invokevirtual index, 3)) (hroom : 1 ≤ R.frames ∧ (st.map fun v => v.category).sum + 14 ≤ R.locals) (kk : AW E b cells slots w (pc + 3) lv (.ref (gM (eG E)) :: st)) : AW E b cells slots w pc lv (.ref a :: st) := by
  intro H locs ls h1 h2 h3 h4
  have hK := C.2.2.2.2.1
  have hR : eR E = R := C.2.2.2.2.2.2.2
  have r4 : (eS E).vm.findClass "[Ljava/lang/Object;" = some (gA (eG E) 6) := va_nmO (C := "java/lang/Object") (hK.2.1.2 6 _ rfl).2 (by decide +kernel)
  exact va_getC C.1 C.2.1 h4.1.symm C.2.2.2.1 (hK.wm (A := eA E) hl rfl) (hK.wm (A := eA E) hdecl rfl) (hK.wm (A := eA E) hsel rfl) (hK.wm (A := eA E) hinst rfl) (hK.wm (A := eA E) hnat rfl) hK.2.2.2.2.2.1 ⟨_, (h1.2.2.1 k0 i0 _ he).2, rfl, r4⟩ (by rw [hR]; exact hroom.1) (by rw [hR]; exact hroom.2) d (kk H locs ls h1 h2 h3 h4)
end CPY
