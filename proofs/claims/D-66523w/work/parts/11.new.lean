/-! rows that make cells; constructors of Object; casts; static fields -/
section NEW
variable {E : EE} {cc : ByteArray} {own : String} {nL : Nat} {R : Room} {b : Bool} {cells slots : Nat} {w : Wd} {pc : Nat} {lv : List (Nat × Value)} {st : List Value} {a : Nat}
theorem aw_new (C : Cx E cc own nL R) (k0 i0 : Nat) {ci N index : Nat} {Cn : String} {T : u_T} {ty : Nat → FieldType} (fs : List Value) (cl : CLs ci Cn T N ty) (hl : Cond.classLink own index Cn ∈ lw_tbl) (hi : Cond.instantiable Cn N ∈ lw_tbl) (hz : Cond.initialized Cn ∈ lw_tbl) (hfs : ∀ j, j < N → defaultValue (ty j) = vp_V fs j) (d : decode cc pc = .ok (.new index, 3)) (hcs : cells + 1 ≤ R.cells ∧ slots + N ≤ R.slots)
    (kk : ∀ q : Nat, AW E b (cells + 1) (slots + N) (upW w k0 i0 (q, .inr (ci, fs))) (pc + 3) lv (.ref q :: st)) : AW E b cells slots w pc lv st := by
  intro H locs ls h1 h2 h3 h4
  have hK := C.2.2.2.2.1
  have hR : eR E = R := C.2.2.2.2.2.2.2
  have hKn := hK.2.1.1 ci _ cl.1
  refine W.newcK C.1 C.2.1 C.2.2.2.1 (hK.wm hl rfl) (hK.wm hi rfl) (hK.wm hz rfl) rfl d (by rw [hR]; exact hcs.1) (by rw [hR]; exact hcs.2) hKn.2.1 rfl fun H1 kC hkC e1 z1 o1 => ?_
  exact kk H.size H1 locs ls (h1.new ⟨_, cl.1, (u_born ty (cl.ts hK (A := eA E)) (fun _ h => h) hKn hkC e1 cl.2.2.1).to hfs⟩ (by omega) o1) h2 h3 h4
theorem aw_newI (C : Cx E cc own nL R) (k0 i0 : Nat) {n : Int32} (N : Nat) (hm : Cond.arrayClass .int ∈ lw_tbl) (d : decode cc pc = .ok (.newarray .int, 2)) (hn : n = nI N) (hb : N ≤ 100000) (hcs : cells + 1 ≤ R.cells ∧ slots + N ≤ R.slots)
    (kk : ∀ q : Nat, AW E b (cells + 1) (slots + N) (upW w k0 i0 (q, .inl (gA (eG E) 0, N, .inl (fun _ => 0)))) (pc + 2) lv (.ref q :: st)) : AW E b cells slots w pc lv (.int n :: st) := by
  intro H locs ls h1 h2 h3 h4
  have hK := C.2.2.2.2.1
  have hR : eR E = R := C.2.2.2.2.2.2.2
  have hN : N < 2 ^ 31 := by omega
  refine va_newaK (atype := .int) (N := N) C.1 C.2.1 (hK.wm hm rfl) rfl d rfl (by rw [hn]; exact nI_pos hN) (by rw [hn]; exact nI_clamp hN) (by show N * 4 ≤ _; omega) (by rw [hR]; exact hcs.1) (by rw [hR]; exact hcs.2) rfl fun H1 cA e1 z1 o1 g1 g2 => ?_
  have hcA : gA (eG E) 0 = cA := Option.some.inj ((hK.2.1.2 0 _ rfl).2.symm.trans g2)
  subst hcA
  exact kk H.size H1 locs ls (h1.new e1 (by omega) o1) h2 h3 h4
theorem aw_newJ (C : Cx E cc own nL R) (k0 i0 : Nat) {n : Int32} (N : Nat) (hm : Cond.arrayClass .long ∈ lw_tbl) (d : decode cc pc = .ok (.newarray .long, 2)) (hn : n = nI N) (hb : N ≤ 100000) (hcs : cells + 1 ≤ R.cells ∧ slots + N ≤ R.slots)
    (kk : ∀ q : Nat, AW E b (cells + 1) (slots + N) (upW w k0 i0 (q, .inl (gA (eG E) 1, N, .inr (.inl (fun _ => 0))))) (pc + 2) lv (.ref q :: st)) : AW E b cells slots w pc lv (.int n :: st) := by
  intro H locs ls h1 h2 h3 h4
  have hK := C.2.2.2.2.1
  have hR : eR E = R := C.2.2.2.2.2.2.2
  have hN : N < 2 ^ 31 := by omega
  refine va_newaK (atype := .long) (N := N) C.1 C.2.1 (hK.wm hm rfl) rfl d rfl (by rw [hn]; exact nI_pos hN) (by rw [hn]; exact nI_clamp hN) (by show N * 8 ≤ _; omega) (by rw [hR]; exact hcs.1) (by rw [hR]; exact hcs.2) rfl fun H1 cA e1 z1 o1 g1 g2 => ?_
  have hcA : gA (eG E) 1 = cA := Option.some.inj ((hK.2.1.2 1 _ rfl).2.symm.trans g2)
  subst hcA
  exact kk H.size H1 locs ls (h1.new e1 (by omega) o1) h2 h3 h4
theorem aw_newZ (C : Cx E cc own nL R) (k0 i0 : Nat) {n : Int32} (N : Nat) (hm : Cond.arrayClass .boolean ∈ lw_tbl) (d : decode cc pc = .ok (.newarray .boolean, 2)) (hn : n = nI N) (hb : N ≤ 100000) (hcs : cells + 1 ≤ R.cells ∧ slots + N ≤ R.slots)
    (kk : ∀ q : Nat, AW E b (cells + 1) (slots + N) (upW w k0 i0 (q, .inl (gA (eG E) 2, N, .inl (fun _ => 0)))) (pc + 2) lv (.ref q :: st)) : AW E b cells slots w pc lv (.int n :: st) := by
  intro H locs ls h1 h2 h3 h4
  have hK := C.2.2.2.2.1
  have hR : eR E = R := C.2.2.2.2.2.2.2
  have hN : N < 2 ^ 31 := by omega
  refine va_newaK (atype := .boolean) (N := N) C.1 C.2.1 (hK.wm hm rfl) rfl d rfl (by rw [hn]; exact nI_pos hN) (by rw [hn]; exact nI_clamp hN) (by show N * 1 ≤ _; omega) (by rw [hR]; exact hcs.1) (by rw [hR]; exact hcs.2) rfl fun H1 cA e1 z1 o1 g1 g2 => ?_
  have hcA : gA (eG E) 2 = cA := Option.some.inj ((hK.2.1.2 2 _ rfl).2.symm.trans g2)
  subst hcA
  exact kk H.size H1 locs ls (h1.new e1 (by omega) o1) h2 h3 h4
theorem aw_newQ (C : Cx E cc own nL R) (k0 i0 t0 : Nat) {n : Int32} (N : Nat) {index : Nat} {cA : ClassId} {Cn : String} (ht : (tysOf (gA (eG E)))[t0]? = some (cA, .object Cn)) (hl : Cond.classLink own index Cn ∈ lw_tbl) (hm : Cond.arrayOver (.object Cn) ∈ lw_tbl) (d : decode cc pc = .ok (.anewarray index, 3)) (hn : n = nI N) (hb : N ≤ 100000) (hcs : cells + 1 ≤ R.cells ∧ slots + N ≤ R.slots)
    (kk : ∀ q : Nat, AW E b (cells + 1) (slots + N) (upW w k0 i0 (q, .inl (cA, N, .inr (.inr (.inr (.inr (fun _ => none))))))) (pc + 3) lv (.ref q :: st)) : AW E b cells slots w pc lv (.int n :: st) := by
  intro H locs ls h1 h2 h3 h4
  have hK := C.2.2.2.2.1
  have hR : eR E = R := C.2.2.2.2.2.2.2
  have hN : N < 2 ^ 31 := by omega
  have hcl : n.toNatClampNeg = N := by rw [hn]; exact nI_clamp hN
  refine W.anew C.1 C.2.1 C.2.2.2.1 (hK.wm hl rfl) (hK.wm hm rfl) rfl d rfl (by rw [hn]; exact nI_pos hN) (by rw [hcl]; omega) (by rw [hR]; exact hcs.1) (by rw [hR, hcl]; exact hcs.2) fun cA' kA comp g1 g2 g3 g4 => ?_
  obtain ⟨kA0, comp0, r1, r2, r3, r4⟩ := (hK.2.1.2 t0 _ ht).2
  have hcA : cA' = cA := Option.some.inj (g1.symm.trans r4)
  subst hcA
  rw [hcl]
  have key : hp (eG E) (upW w k0 i0 (H.size, .inl (cA', N, .inr (.inr (.inr (.inr (fun _ => none))))))) (H.push { cls := cA', slots := Array.replicate N .null, vm := .none }) := by
    refine h1.new ?_ (by simp) (fun q hq => by rw [Array.getElem?_push, if_neg (Nat.ne_of_lt hq)])
    show (H.push _)[H.size]? = some (vp_cell _ _)
    rw [vp_cell_q, arrV_new]
    simp [va_rf]
  exact kk H.size _ locs ls key h2 h3 h4
theorem aw_objInit (C : Cx E cc own nL R) {index : Nat} (hl : Cond.methodLink own index objectInit ∈ lw_tbl) (hi : Cond.instanceMethod objectInit ∈ lw_tbl) (hc : Cond.code objectInit ⟨#[0xb1]⟩ 1 none ∈ lw_tbl) (d : decode cc pc = .ok (.invokespecial index, 3)) (h8 : (st.map fun v => v.category).sum ≤ 8) (hroom : 1 ≤ R.frames ∧ 20 ≤ R.locals) (kk : AW E b cells slots w (pc + 3) lv st) : AW E b cells slots w pc lv (.ref a :: st) := by
  intro H locs ls h1 h2 h3 h4
  have hK := C.2.2.2.2.1
  have hR : eR E = R := C.2.2.2.2.2.2.2
  refine W.objInit C.1 C.2.1 C.2.2.2.1 (hK.wm hl rfl) (hK.wm hi rfl) (hK.wm hc rfl) rfl h4.1 rfl d (by rw [hR]; exact hroom.1) (by rw [hR]; show 2 * 0 + _ + 12 ≤ _; omega) (kk H locs ls h1 h2 h3 h4)
theorem aw_cast (C : Cx E cc own nL R) {index ci : Nat} {q : vw_C} {nm : String} (hcl : classes[ci]? = some q) (hq : q.1 = nm) (hr : Rcv w a nm) (hl : Cond.classLink own index nm ∈ lw_tbl) (d : decode cc pc = .ok (.checkcast index, 3)) (kk : AW E b cells slots w (pc + 3) lv (.ref a :: st)) : AW E b cells slots w pc lv (.ref a :: st) := by
  intro H locs ls h1 h2 h3 h4
  have hK := C.2.2.2.2.1
  subst hq
  exact va_castS C.1 C.2.1 C.2.2.2.1 (hK.wm hl rfl) (hK.2.1.1 ci q hcl).2 (hr.cell h1 hK) d (kk H locs ls h1 h2 h3 h4)
theorem aw_instY (C : Cx E cc own nL R) {index ci : Nat} {q : vw_C} {nm : String} (hcl : classes[ci]? = some q) (hq : q.1 = nm) (hr : Rcv w a nm) (hl : Cond.classLink own index nm ∈ lw_tbl) (d : decode cc pc = .ok (.instanceof index, 3)) (kk : AW E b cells slots w (pc + 3) lv (.int 1 :: st)) : AW E b cells slots w pc lv (.ref a :: st) := by
  intro H locs ls h1 h2 h3 h4
  have hK := C.2.2.2.2.1
  subst hq
  exact va_instS C.1 C.2.1 C.2.2.2.1 (hK.wm hl rfl) (hK.2.1.1 ci q hcl).2 (hr.cell h1 hK) d (kk H locs ls h1 h2 h3 h4)
theorem aw_instN (C : Cx E cc own nL R) {index : Nat} {Cn nm : String} (hnc : (Cn, nm) ∈ fw_nc) (hr : Rcv w a Cn) (hl : Cond.classLink own index nm ∈ lw_tbl) (d : decode cc pc = .ok (.instanceof index, 3)) (kk : AW E b cells slots w (pc + 3) lv (.int 0 :: st)) : AW E b cells slots w pc lv (.ref a :: st) := by
  intro H locs ls h1 h2 h3 h4
  have hK := C.2.2.2.2.1
  exact va_instNo C.1 C.2.1 C.2.2.2.1 (hK.wm hl rfl) (hK.2.2.2.2.2.2 _ hnc) (hr.cell h1 hK) d (kk H locs ls h1 h2 h3 h4)
/-- ArrayList's static empty array -/
theorem aw_getZ (C : Cx E cc own nL R) {index : Nat} (hl : Cond.fieldLink own index "java/util/ArrayList" "DEFAULTCAPACITY_EMPTY_ELEMENTDATA" "[Ljava/lang/Object;" ∈ lw_tbl) (d : decode cc pc = .ok (.getstatic index, 3)) (kk : AW E b cells slots w (pc + 3) lv (.ref (gZ (eG E)) :: st)) : AW E b cells slots w pc lv st := by
  intro H locs ls h1 h2 h3 h4
  have hK := C.2.2.2.2.1
  obtain ⟨cf, kf, fi, f, a, cell, z1, z2, z3, z4, z5, z6, z7, z8⟩ := hK.2.2.2.1
  exact W.gets C.1 C.2.1 C.2.2.2.1 (hK.wm hl rfl) z1 z2 z3 z4 (by rw [h1.2.1 a (Array.getElem?_eq_some_iff.mp z5).1]; exact z5) (fun e => by rw [e] at z6; cases z6) z7 rfl d (kk H locs ls h1 h2 h3 h4)
theorem aw_lenZ (C : Cx E cc own nL R) (d : decode cc pc = .ok (.arraylength, 1)) (kk : AW E b cells slots w (pc + 1) lv (.int 0 :: st)) : AW E b cells slots w pc lv (.ref (gZ (eG E)) :: st) := by
  intro H locs ls h1 h2 h3 h4
  have hK := C.2.2.2.2.1
  obtain ⟨cell, z1, z2, z3, z4, z5, z6, z7⟩ := hK.2.2.2.2.1
  exact W.alen C.1 C.2.1 (by rw [h1.2.1 _ (Array.getElem?_eq_some_iff.mp z1).1]; exact z1) z2 z5 rfl rfl d (kk H locs ls h1 h2 h3 h4)
end NEW
