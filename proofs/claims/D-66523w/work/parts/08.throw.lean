/-! rows of the calls; throwing a new exception; catching one -/
section CV
variable {E : EE} {cc : ByteArray} {own : String} {nL : Nat} {R : Room} {b b' : Bool} {cells slots : Nat} {w : Wd} {pc : Nat} {lv : List (Nat × Value)} {index n maxL dd mc ms : Nat} {y : MethodName} {bytes : ByteArray} {ret : Option FieldType} {Cn : String} {F : Addr → Prop} {post : Rs → Wd → Prop} {a : Nat}
theorem aw_cv (C : Cx E cc own nL R) (ci : CIv own index Cn y bytes maxL ret n) (As : List Value) {rest : List Value} (hM : CT (eL E) (eG E) y (.code y bytes maxL ret) dd mc ms F w (.ref a :: As) post) (d : decode cc pc = .ok (.invokevirtual index, 3)) (hr : Rcv w a Cn) (hn : As.length = n) (hfp : FP E F b b') (h8 : (rest.map fun v => v.category).sum ≤ 8) (hroom : dd + 1 ≤ R.frames ∧ 8 + (maxL + 11) + 37 * dd ≤ R.locals) (hcs : cells + mc ≤ R.cells ∧ slots + ms ≤ R.slots)
    (k1 : ∀ (v : Option Value) (w' : Wd), post (.inl v) w' → AW E b' (cells + mc) (slots + ms) w' (pc + 3) lv (v.toList ++ rest)) (k2 : ∀ (n : Nat) (w' : Wd), post (.inr n) w' → AT E b' (cells + mc) (slots + ms) w' pc lv n) : AW E b cells slots w pc lv (As.reverse ++ .ref a :: rest) :=
  aw_call C hM (ent_v C ci d hr As hn) ci.2.2.2.1 rfl fw_code ci.2.2.2.2.1 hfp h8 hroom hcs k1 k2
theorem aw_cvn (C : Cx E cc own nL R) {host : String} (ci : CIvn own index host Cn y bytes maxL ret n) (As : List Value) {rest : List Value} (hM : CT (eL E) (eG E) y (.code y bytes maxL ret) dd mc ms F w (.ref a :: As) post) (d : decode cc pc = .ok (.invokevirtual index, 3)) (hr : Rcv w a Cn) (hn : As.length = n) (hfp : FP E F b b') (h8 : (rest.map fun v => v.category).sum ≤ 8) (hroom : dd + 1 ≤ R.frames ∧ 8 + (maxL + 11) + 37 * dd ≤ R.locals) (hcs : cells + mc ≤ R.cells ∧ slots + ms ≤ R.slots)
    (k1 : ∀ (v : Option Value) (w' : Wd), post (.inl v) w' → AW E b' (cells + mc) (slots + ms) w' (pc + 3) lv (v.toList ++ rest)) (k2 : ∀ (n : Nat) (w' : Wd), post (.inr n) w' → AT E b' (cells + mc) (slots + ms) w' pc lv n) : AW E b cells slots w pc lv (As.reverse ++ .ref a :: rest) :=
  aw_call C hM (ent_vn C ci d hr As hn) ci.2.2.2.1 rfl fw_code ci.2.2.2.2.1 hfp h8 hroom hcs k1 k2
theorem aw_cu (C : Cx E cc own nL R) {owner : String} {x : MethodName} {xb : ByteArray} {xm : Nat} {xr : Option FieldType} (ci : CIu own index Cn owner x y xb xm xr bytes maxL ret n) (As : List Value) {rest : List Value} (hM : CT (eL E) (eG E) y (.code y bytes maxL ret) dd mc ms F w (.ref a :: As) post) (d : decode cc pc = .ok (.invokevirtual index, 3)) (hr : Rcv w a Cn) (hn : As.length = n) (hfp : FP E F b b') (h8 : (rest.map fun v => v.category).sum ≤ 8) (hroom : dd + 1 ≤ R.frames ∧ 8 + (maxL + 11) + 37 * dd ≤ R.locals) (hcs : cells + mc ≤ R.cells ∧ slots + ms ≤ R.slots)
    (k1 : ∀ (v : Option Value) (w' : Wd), post (.inl v) w' → AW E b' (cells + mc) (slots + ms) w' (pc + 3) lv (v.toList ++ rest)) (k2 : ∀ (n : Nat) (w' : Wd), post (.inr n) w' → AT E b' (cells + mc) (slots + ms) w' pc lv n) : AW E b cells slots w pc lv (As.reverse ++ .ref a :: rest) :=
  aw_call C hM (ent_u C ci d hr As hn) ci.2.2.2.2.1 rfl fw_code ci.2.2.2.2.2.1 hfp h8 hroom hcs k1 k2
theorem aw_cs (C : Cx E cc own nL R) (ci : CIs own index y bytes maxL ret n) (As : List Value) {rest : List Value} (hM : CT (eL E) (eG E) y (.code y bytes maxL ret) dd mc ms F w As post) (d : decode cc pc = .ok (.invokestatic index, 3)) (hn : As.length = n) (hfp : FP E F b b') (h8 : (rest.map fun v => v.category).sum ≤ 8) (hroom : dd + 1 ≤ R.frames ∧ 8 + (maxL + 11) + 37 * dd ≤ R.locals) (hcs : cells + mc ≤ R.cells ∧ slots + ms ≤ R.slots)
    (k1 : ∀ (v : Option Value) (w' : Wd), post (.inl v) w' → AW E b' (cells + mc) (slots + ms) w' (pc + 3) lv (v.toList ++ rest)) (k2 : ∀ (n : Nat) (w' : Wd), post (.inr n) w' → AT E b' (cells + mc) (slots + ms) w' pc lv n) : AW E b cells slots w pc lv (As.reverse ++ rest) :=
  aw_call C hM (ent_sc C ci d As hn) ci.2.2.1 rfl fw_code ci.2.2.2.1 hfp h8 hroom hcs k1 k2
theorem aw_csn (C : Cx E cc own nL R) {host : String} (ci : CIsn own index host y bytes maxL ret n) (As : List Value) {rest : List Value} (hM : CT (eL E) (eG E) y (.code y bytes maxL ret) dd mc ms F w As post) (d : decode cc pc = .ok (.invokestatic index, 3)) (hn : As.length = n) (hfp : FP E F b b') (h8 : (rest.map fun v => v.category).sum ≤ 8) (hroom : dd + 1 ≤ R.frames ∧ 8 + (maxL + 11) + 37 * dd ≤ R.locals) (hcs : cells + mc ≤ R.cells ∧ slots + ms ≤ R.slots)
    (k1 : ∀ (v : Option Value) (w' : Wd), post (.inl v) w' → AW E b' (cells + mc) (slots + ms) w' (pc + 3) lv (v.toList ++ rest)) (k2 : ∀ (n : Nat) (w' : Wd), post (.inr n) w' → AT E b' (cells + mc) (slots + ms) w' pc lv n) : AW E b cells slots w pc lv (As.reverse ++ rest) :=
  aw_call C hM (ent_sn C ci d As hn) ci.2.2.1 rfl fw_code ci.2.2.2.1 hfp h8 hroom hcs k1 k2
theorem aw_csh (C : Cx E cc own nL R) {hh : List (Nat × Nat × Nat × Nat)} (ci : CIh own index y bytes maxL ret hh n) (As : List Value) {rest : List Value} (hM : CT (eL E) (eG E) y (.codeWith y bytes maxL ret hh) dd mc ms F w As post) (d : decode cc pc = .ok (.invokestatic index, 3)) (hn : As.length = n) (hfp : FP E F b b') (h8 : (rest.map fun v => v.category).sum ≤ 8) (hroom : dd + 1 ≤ R.frames ∧ 8 + (maxL + 11) + 37 * dd ≤ R.locals) (hcs : cells + mc ≤ R.cells ∧ slots + ms ≤ R.slots)
    (k1 : ∀ (v : Option Value) (w' : Wd), post (.inl v) w' → AW E b' (cells + mc) (slots + ms) w' (pc + 3) lv (v.toList ++ rest)) (k2 : ∀ (n : Nat) (w' : Wd), post (.inr n) w' → AT E b' (cells + mc) (slots + ms) w' pc lv n) : AW E b cells slots w pc lv (As.reverse ++ rest) :=
  aw_call C hM (ent_sh C ci d As hn) ci.2.2.1 rfl fw_codeW ci.2.2.2.1 hfp h8 hroom hcs k1 k2
theorem aw_ci (C : Cx E cc own nL R) (ci : CIi own index y bytes maxL n) (As : List Value) {rest : List Value} (hM : CT (eL E) (eG E) y (.code y bytes maxL none) dd mc ms F w (.ref a :: As) post) (d : decode cc pc = .ok (.invokespecial index, 3)) (hn : As.length = n) (hfp : FP E F b b') (h8 : (rest.map fun v => v.category).sum ≤ 8) (hroom : dd + 1 ≤ R.frames ∧ 8 + (maxL + 11) + 37 * dd ≤ R.locals) (hcs : cells + mc ≤ R.cells ∧ slots + ms ≤ R.slots)
    (k1 : ∀ (v : Option Value) (w' : Wd), post (.inl v) w' → AW E b' (cells + mc) (slots + ms) w' (pc + 3) lv (v.toList ++ rest)) (k2 : ∀ (n : Nat) (w' : Wd), post (.inr n) w' → AT E b' (cells + mc) (slots + ms) w' pc lv n) : AW E b cells slots w pc lv (As.reverse ++ .ref a :: rest) :=
  aw_call C hM (ent_i C ci d As hn) ci.2.2.1 rfl fw_code ci.2.2.2.1 hfp h8 hroom hcs k1 k2
theorem aw_cin (C : Cx E cc own nL R) {host : String} (ci : CIin own index host y bytes maxL n) (As : List Value) {rest : List Value} (hM : CT (eL E) (eG E) y (.code y bytes maxL none) dd mc ms F w (.ref a :: As) post) (d : decode cc pc = .ok (.invokespecial index, 3)) (hn : As.length = n) (hfp : FP E F b b') (h8 : (rest.map fun v => v.category).sum ≤ 8) (hroom : dd + 1 ≤ R.frames ∧ 8 + (maxL + 11) + 37 * dd ≤ R.locals) (hcs : cells + mc ≤ R.cells ∧ slots + ms ≤ R.slots)
    (k1 : ∀ (v : Option Value) (w' : Wd), post (.inl v) w' → AW E b' (cells + mc) (slots + ms) w' (pc + 3) lv (v.toList ++ rest)) (k2 : ∀ (n : Nat) (w' : Wd), post (.inr n) w' → AT E b' (cells + mc) (slots + ms) w' pc lv n) : AW E b cells slots w pc lv (As.reverse ++ .ref a :: rest) :=
  aw_call C hM (ent_in C ci d As hn) ci.2.2.1 rfl fw_code ci.2.2.2.1 hfp h8 hroom hcs k1 k2
end CV
/-- a heap word of the start, at a state whose heap is unchanged below the start's size -/
theorem fw_hs_at {c : Cond} (hc : c ∈ fw_hs) {U : State} {H0 : Heap} {A : Array Value} (hq : ∀ q : Nat, q < H0.size → U.heap[q]? = H0[q]?) (h : c.before #[] (atH U H0) = true) : c.before A U = true := by
  have stat : ∀ {C n d : String}, (Cond.isRef (.static C n d)).before #[] (atH U H0) = true → (Cond.isRef (.static C n d)).before A U = true := by
    intro C n d h
    simp only [Cond.before, Cond.holds, Cond.value, Term.eval] at h ⊢
    have hf : (atH U H0).fieldNamed? C n d true = U.fieldNamed? C n d true := rfl
    rw [hf] at h
    cases hx : U.fieldNamed? C n d true with
    | none => simp [hx] at h
    | some r =>
      obtain ⟨c0, k0, i0⟩ := r
      simp only [hx, Option.bind_eq_bind, Option.bind_some] at h ⊢
      cases hs : k0.statics with
      | none => simp [hs] at h
      | some a0 =>
        simp only [hs, Option.bind_some] at h ⊢
        have hlt : a0 < H0.size := by
          cases hg : H0[a0]? with
          | none => simp [hg] at h
          | some cell => exact (Array.getElem?_eq_some_iff.mp hg).1
        rw [hq a0 hlt]
        exact h
  have lays : ∀ {C n d : String}, (Cond.laysStatic C n d).before #[] (atH U H0) = true → (Cond.laysStatic C n d).before A U = true := by
    intro C n d h
    have h0 := h
    obtain ⟨c1, k1, i1, f1, a1, cell1, -, g2, -, g4, g5, -⟩ := Cond.laysStatic_spec h0
    have g2' : U.fieldFound? C n d = some (c1, k1, i1, f1) := g2
    have hlt : a1 < H0.size := (Array.getElem?_eq_some_iff.mp g5).1
    have e1 : U.heap[a1]? = H0[a1]? := hq a1 hlt
    have hf : (atH U H0).fieldFound? C n d = U.fieldFound? C n d := rfl
    simp only [Cond.before, Cond.holds, Cond.value, hf, g2'] at h ⊢
    have hv : (atH U H0).vm.findClass C = U.vm.findClass C := rfl
    rw [hv] at h
    cases hcl : U.vm.findClass C with
    | none => simp [hcl] at h
    | some c =>
      simp only [hcl, g4, Option.bind_some, e1] at h ⊢
      exact h
  simp only [fw_hs, List.mem_cons, List.not_mem_nil, or_false] at hc
  rcases hc with rfl | rfl | rfl | rfl
  · exact lays h
  · exact lays h
  · exact stat h
  · exact stat h
abbrev exS : List String := ["java/lang/RuntimeException", "java/lang/Exception"]
theorem exS_fit : ∀ n ∈ exS, Bundle.fit n = true := by decide +kernel
/-- what a throw of a new exception of class n asks of the tables, at the site own, ic -/
def XI (own : String) (inw ic n : Nat) : Prop :=
  (∀ x ∈ Bundle.ownAtoms0 own ic (exN n) exS, (x ∈ lw_tbl ∧ mvs x = true) ∨ x ∈ fw_hs) ∧ Cond.classLink own inw (exN n) ∈ lw_tbl ∧ Cond.instantiable (exN n) 6 ∈ lw_tbl ∧ Cond.initialized (exN n) ∈ lw_tbl ∧ Bundle.fit (exN n) = true
section THROW
variable {E : EE} {cc : ByteArray} {own : String} {nL : Nat} {R : Room} {cells slots : Nat} {w : Wd} {pc : Nat} {lv : List (Nat × Value)}
set_option maxHeartbeats 200000 in
theorem aw_throw (C : Cx E cc own nL R) {ret : Option FieldType} {post : Rs → Wd → Prop} {mc ms n inw ic : Nat} (r : Cr E ret post mc ms) (hex : (eC E).exceptionTable.toList = []) (hw : hp (eG E) w (eS E).heap) (xi : XI own inw ic n)
    (d0 : decode cc pc = .ok (.new inw, 3)) (d1 : decode cc (pc + 3) = .ok (.dup, 1)) (d2 : decode cc (pc + 4) = .ok (.invokespecial ic, 3)) (d3 : decode cc (pc + 7) = .ok (.athrow, 1))
    (hroom : 5 < R.frames ∧ 90 ≤ R.locals) (hcs : cells + 1 ≤ R.cells ∧ slots + 6 ≤ R.slots) (hc : cells + 1 ≤ mc) (hs : slots + 6 ≤ ms) (hq : post (.inr n) w) : AW E true cells slots w pc lv [] := by
  intro H locs ls h1 h2 h3 h4 T0 hT0 X0
  obtain rfl := h3 rfl
  have hge : (eS E).heap.size ≤ H.size := by rw [← hT0]; exact X0.same.2.1
  obtain ⟨x1, x2, x3, x4, x5⟩ := xi
  have hK := C.2.2.2.2.1
  have hR : eR E = R := C.2.2.2.2.2.2.2
  suffices key : W (eP E) (eL E) (eE E) (eR E) (eS E) (eM E) (eA E) (eB E) (eH E) (eC E) H [] cells slots (eQ E) (F0 (eM E) pc ls []) from key T0 hT0 X0
  refine W.newc C.1 C.2.1 C.2.2.2.1 (hK.wm x2 rfl) (hK.wm x3 rfl) (hK.wm x4 rfl) rfl d0 (by rw [hR]; exact hcs.1) (by rw [hR]; exact hcs.2) (fun cC kC g1 g2 g3 g4 => ?_)
  refine lv_dup C.1 C.2.1 d1 rfl ?_
  intro T hT X
  have hcell : T.heap[H.size]? = some (freshCell cC kC) := by rw [hT]; simp [freshCell]
  have hsame := X.same
  obtain ⟨U, s1, s2, s3, s4, s5, ce, s6, s7⟩ := X.ctorThrow0 C.1 (Launch.traces_off (by rw [C.2.2.2.2.2.2.1]; rfl) X.admits) C.2.2.2.1 (cls := exN n) (names := exS) x5 exS_fit (ic := ic)
    (fun a ha => by
      rcases x1 a ha with ⟨z1, z2⟩ | z
      · exact hK.wm z1 z2
      · exact fw_hs_at z (fun q hq => hw.2.1 q hq) (hK.2.2.1 a z))
    (fun x hx => by cases hx) g1 g2 hcell hge
    (g := F0 (eM E) (pc + 3 + 1) ls [.ref H.size, .ref H.size]) rfl h4.1 rfl rfl (rest := []) rfl (by rw [C.2.1]; exact d2) (by rw [C.2.1]; exact d3) (by rw [hex]; intro x hx; cases hx)
    (by rw [hR]; exact hroom.1) (by rw [hR]; show 2 * 0 + _ + _ ≤ _; simp [Value.category]; omega) C.2.2.2.2.2.1
  refine ⟨U, s1, r.2 U ⟨.threw H.size, s2, s3, ⟨w, ?_, Or.inr ⟨n, H.size, rfl, hq, ?_⟩⟩, s4, [], s5.mono hc hs, fun q h => by cases h⟩⟩
  · have hold : ∀ (a : Nat) (cell : Cell), (eS E).heap[a]? = some cell → U.heap[a]? = some cell := fun a cell hc => State.sameButNew.old_cell s5 hc
    refine hw.kept s5.2.1 (fun q hq => ?_)
    rw [Array.getElem?_eq_getElem hq]
    exact hold q _ (Array.getElem?_eq_getElem hq)
  · exact ⟨ce, s6, by rw [s7.vm]; rfl, s7.cls⟩
end THROW
