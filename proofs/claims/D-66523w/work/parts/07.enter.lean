/-! the invokes: what a call site is, by the tables' words; and the rows of the calls -/
abbrev okY (y : MethodName) (n : Nat) : Prop := (y.cls ≠ "java/lang/invoke/MethodHandle" ∧ y.cls ≠ "java/lang/invoke/VarHandle") ∧ (parseMethodDescriptor y.desc).map (fun d => d.parameters.length) = some n
theorem okY.len {y : MethodName} {n : Nat} (h : okY y n) {As : List Value} (hn : As.length = n) : ∀ sig, parseMethodDescriptor y.desc = some sig → As.length = sig.parameters.length := by
  intro sig hs
  have h2 := h.2
  rw [hs] at h2
  exact hn.trans (Option.some.inj h2).symm
/-- the receiver is an object of the class Cn -/
def Rcv (w : Wd) (a : Nat) (Cn : String) : Prop := ∃ (k i ci : Nat) (fs : List Value) (q : vw_C), w k i = some (a, .inr (ci, fs)) ∧ classes[ci]? = some q ∧ q.1 = Cn
theorem Rcv.cell {G : GG} {w : Wd} {a : Nat} {Cn : String} {H : Heap} {s : State} (h : Rcv w a Cn) (hH : hp G w H) (hK : Kg G s) : ∃ cellB : Cell, H[a]? = some cellB ∧ cellB.vm.isStatics = false ∧ s.vm.findClass Cn = some cellB.cls := by
  obtain ⟨k, i, ci, fs, q, h1, h2, h3⟩ := h
  obtain ⟨-, r, z1, cell, z2, z3, z4, -⟩ := hH.2.2.1 k i _ h1
  refine ⟨cell, z2, by rw [z4]; rfl, ?_⟩
  rw [z3, ← h3]
  exact (hK.2.1.1 ci q h2).2.1
-- call sites
def CIv (own : String) (index : Nat) (Cn : String) (y : MethodName) (bytes : ByteArray) (maxL : Nat) (ret : Option FieldType) (n : Nat) : Prop :=
  Cond.methodLink own index y ∈ lw_tbl ∧ Cond.instanceMethod y ∈ lw_tbl ∧ Cond.selects Cn y y ∈ lw_tbl ∧ Cond.code y bytes maxL ret ∈ lw_tbl ∧ Cond.initialized y.cls ∈ lw_tbl ∧ okY y n
def CIs (own : String) (index : Nat) (y : MethodName) (bytes : ByteArray) (maxL : Nat) (ret : Option FieldType) (n : Nat) : Prop :=
  Cond.methodLink own index y ∈ lw_tbl ∧ Cond.static y ∈ lw_tbl ∧ Cond.code y bytes maxL ret ∈ lw_tbl ∧ Cond.initialized y.cls ∈ lw_tbl ∧ okY y n
def CIh (own : String) (index : Nat) (y : MethodName) (bytes : ByteArray) (maxL : Nat) (ret : Option FieldType) (hh : List (Nat × Nat × Nat × Nat)) (n : Nat) : Prop :=
  Cond.methodLink own index y ∈ lw_tbl ∧ Cond.static y ∈ lw_tbl ∧ Cond.codeWith y bytes maxL ret hh ∈ lw_tbl ∧ Cond.initialized y.cls ∈ lw_tbl ∧ okY y n
def CIi (own : String) (index : Nat) (y : MethodName) (bytes : ByteArray) (maxL : Nat) (n : Nat) : Prop :=
  Cond.methodLink own index y ∈ lw_tbl ∧ Cond.instanceMethod y ∈ lw_tbl ∧ Cond.code y bytes maxL none ∈ lw_tbl ∧ Cond.initialized y.cls ∈ lw_tbl ∧ okY y n ∧ y.name = "<init>"
def CIvn (own : String) (index : Nat) (host Cn : String) (y : MethodName) (bytes : ByteArray) (maxL : Nat) (ret : Option FieldType) (n : Nat) : Prop :=
  Cond.methodLinkNest own index y host ∈ lw_tbl ∧ Cond.instanceMethod y ∈ lw_tbl ∧ Cond.selects Cn y y ∈ lw_tbl ∧ Cond.code y bytes maxL ret ∈ lw_tbl ∧ Cond.initialized y.cls ∈ lw_tbl ∧ okY y n
def CIsn (own : String) (index : Nat) (host : String) (y : MethodName) (bytes : ByteArray) (maxL : Nat) (ret : Option FieldType) (n : Nat) : Prop :=
  Cond.methodLinkNest own index y host ∈ lw_tbl ∧ Cond.static y ∈ lw_tbl ∧ Cond.code y bytes maxL ret ∈ lw_tbl ∧ Cond.initialized y.cls ∈ lw_tbl ∧ okY y n
def CIin (own : String) (index : Nat) (host : String) (y : MethodName) (bytes : ByteArray) (maxL : Nat) (n : Nat) : Prop :=
  Cond.methodLinkNest own index y host ∈ lw_tbl ∧ Cond.instanceMethod y ∈ lw_tbl ∧ Cond.code y bytes maxL none ∈ lw_tbl ∧ Cond.initialized y.cls ∈ lw_tbl ∧ okY y n ∧ y.name = "<init>"
/-- the site names x, the receiver's class Cn selects y -/
def CIu (own : String) (index : Nat) (Cn owner : String) (x y : MethodName) (xb : ByteArray) (xm : Nat) (xr : Option FieldType) (bytes : ByteArray) (maxL : Nat) (ret : Option FieldType) (n : Nat) : Prop :=
  Cond.methodLink own index x ∈ lw_tbl ∧ Cond.sameMethod x.cls owner x.name x.desc ∈ lw_tbl ∧ Cond.selects Cn x y ∈ lw_tbl ∧ Cond.instanceMethod y ∈ lw_tbl ∧ Cond.code y bytes maxL ret ∈ lw_tbl ∧ Cond.initialized y.cls ∈ lw_tbl ∧
  Cond.instanceMethod ⟨owner, x.name, x.desc⟩ ∈ lw_tbl ∧ Cond.code ⟨owner, x.name, x.desc⟩ xb xm xr ∈ lw_tbl ∧ (owner ≠ "java/lang/invoke/MethodHandle" ∧ owner ≠ "java/lang/invoke/VarHandle") ∧ (parseMethodDescriptor x.desc).map (fun d => d.parameters.length) = some n
theorem fw_code {y : MethodName} {bytes : ByteArray} {maxL : Nat} {ret : Option FieldType} {a : Array Value} : ∀ (U : State) (mk : MethodId), U.methodNamed? y = some mk → (Cond.code y bytes maxL ret).before a U = true → ∃ (methY : Method) (cY : Code), U.vm.method? mk = some methY ∧ methY.code = some cY ∧ cY.maxLocals = maxL := by
  intro U mk hn h
  obtain ⟨methY, cY, h1, h2, -, h3, -⟩ := Cond.code_spec hn h
  exact ⟨methY, cY, h1, h2, h3⟩
theorem fw_codeW {y : MethodName} {bytes : ByteArray} {maxL : Nat} {ret : Option FieldType} {hh : List (Nat × Nat × Nat × Nat)} {a : Array Value} : ∀ (U : State) (mk : MethodId), U.methodNamed? y = some mk → (Cond.codeWith y bytes maxL ret hh).before a U = true → ∃ (methY : Method) (cY : Code), U.vm.method? mk = some methY ∧ methY.code = some cY ∧ cY.maxLocals = maxL := by
  intro U mk hn h
  obtain ⟨m9, methY, cY, hn9, h1, h2, -, h3, -⟩ := Cond.codeWith_spec h
  cases hn.symm.trans hn9
  exact ⟨methY, cY, h1, h2, h3⟩
section ENT
variable {E : EE} {cc : ByteArray} {own : String} {nL : Nat} {R : Room} {cells slots : Nat} {w : Wd} {pc : Nat} {lv : List (Nat × Value)} {index n maxL : Nat} {y : MethodName} {bytes : ByteArray} {ret : Option FieldType} {Cn : String}
theorem ent_v (C : Cx E cc own nL R) (ci : CIv own index Cn y bytes maxL ret n) (d : decode cc pc = .ok (.invokevirtual index, 3)) {a : Nat} (hr : Rcv w a Cn) (As : List Value) {rest : List Value} (hn : As.length = n) : Ent E cells slots w pc lv (As.reverse ++ .ref a :: rest) y (.ref a :: As) rest := by
  intro H locs ls T h1 h4 hT X
  obtain ⟨c1, c2, c3, c4, c5, c6⟩ := ci
  have hK := C.2.2.2.2.1
  obtain ⟨cellB, hcB, hoB, hclB⟩ := hr.cell h1 hK
  obtain ⟨mk, methM, hnamed, hmethM, hstM, habM⟩ := Cond.instanceMethod_spec (hK.wm (A := eA E) c2 rfl)
  obtain ⟨methM', cM, hmethM', -, -, -, -, -, -, hsigM⟩ := Cond.code_spec hnamed (hK.wm (A := eA E) c4 rfl)
  cases hmethM.symm.trans hmethM'
  obtain ⟨k2, r2, m2, q1, q2, q3, q4, kP, hkP, hkPi⟩ := Cond.selects_spec (hK.wm (A := eA E) c3 rfl)
  cases hclB.symm.trans q1
  cases (State.methodFound?_of_named hnamed c6.1).symm.trans q2
  cases hnamed.symm.trans q3
  have hselP : selectMethod (eE E).platform (eS E).vm cellB.cls mk = .method mk := by rw [Launch.admits_selectMethod X.admits]; exact q4
  obtain ⟨vm₁, X₁, hstep₁⟩ := X.invokevirtual C.1 C.2.2.2.1 (hK.wm c1 rfl) hnamed hmethM hstM hkP hkPi c6.1 (a := a) (cell := cellB) (by rw [hT]; exact hcB)
    (fun z h => by rw [h] at hoB; cases hoB) hselP hmethM habM hkP hkPi (g := F0 (eM E) pc ls (As.reverse ++ .ref a :: rest)) rfl (argsL := As) (rest := rest) (c6.len hn _ hsigM) rfl (by rw [C.2.1]; exact d)
  exact ⟨vm₁, mk, _, X₁.warmed, X₁, X₁.named hnamed, by rw [C.2.1]; exact d, fun target h => hstep₁ _ fun acts => by rw [doInvoke_state]; exact h⟩
theorem ent_s (C : Cx E cc own nL R) (c1 : Cond.methodLink own index y ∈ lw_tbl) (c2 : Cond.static y ∈ lw_tbl) {mk : MethodId} {methM : Method} (hnamed : (eS E).methodNamed? y = some mk) (hmethM : (eS E).vm.method? mk = some methM) (hsigM : parseMethodDescriptor y.desc = some methM.sig) (c5 : Cond.initialized y.cls ∈ lw_tbl) (c6 : okY y n) (d : decode cc pc = .ok (.invokestatic index, 3)) (As : List Value) {rest : List Value} (hn : As.length = n) : Ent E cells slots w pc lv (As.reverse ++ rest) y As rest := by
  intro H locs ls T h1 h4 hT X
  have hK := C.2.2.2.2.1
  have hstatic : methM.isStatic = true := Cond.static_spec hnamed hmethM (hK.wm (A := eA E) c2 rfl)
  obtain ⟨kP, hkP, -⟩ := className_of_methodNamed hnamed
  have hinitP : kP.init = .initialized := Cond.initialized_spec (findClass_of_methodNamed hnamed) hkP (hK.wm (A := eA E) c5 rfl)
  obtain ⟨vm₁, X₁, hstep₁⟩ := X.invokestatic C.1 C.2.2.2.1 (hK.wm c1 rfl) hnamed hmethM hstatic hkP hinitP c6.1 (g := F0 (eM E) pc ls (As.reverse ++ rest)) rfl (argsL := As) (rest := rest) (c6.len hn _ hsigM) rfl (by rw [C.2.1]; exact d)
  exact ⟨vm₁, mk, _, X₁.warmed, X₁, X₁.named hnamed, by rw [C.2.1]; exact d, fun target h => hstep₁ _ fun acts => by rw [doInvoke_state]; exact h⟩
theorem ent_sc (C : Cx E cc own nL R) (ci : CIs own index y bytes maxL ret n) (d : decode cc pc = .ok (.invokestatic index, 3)) (As : List Value) {rest : List Value} (hn : As.length = n) : Ent E cells slots w pc lv (As.reverse ++ rest) y As rest := by
  obtain ⟨c1, c2, c4, c5, c6⟩ := ci
  obtain ⟨mk, hnamed⟩ := Cond.code_named (C.2.2.2.2.1.wm (A := eA E) c4 rfl)
  obtain ⟨methM, cM, hmethM, -, -, -, -, -, -, hsigM⟩ := Cond.code_spec hnamed (C.2.2.2.2.1.wm (A := eA E) c4 rfl)
  exact ent_s C c1 c2 hnamed hmethM hsigM c5 c6 d As hn
theorem ent_sh (C : Cx E cc own nL R) {hh : List (Nat × Nat × Nat × Nat)} (ci : CIh own index y bytes maxL ret hh n) (d : decode cc pc = .ok (.invokestatic index, 3)) (As : List Value) {rest : List Value} (hn : As.length = n) : Ent E cells slots w pc lv (As.reverse ++ rest) y As rest := by
  obtain ⟨c1, c2, c4, c5, c6⟩ := ci
  obtain ⟨mk, methM, cM, hnamed, hmethM, -, -, -, -, -, -, hsigM⟩ := Cond.codeWith_spec (C.2.2.2.2.1.wm (A := eA E) c4 rfl)
  exact ent_s C c1 c2 hnamed hmethM hsigM c5 c6 d As hn
theorem ent_sn (C : Cx E cc own nL R) {host : String} (ci : CIsn own index host y bytes maxL ret n) (d : decode cc pc = .ok (.invokestatic index, 3)) (As : List Value) {rest : List Value} (hn : As.length = n) : Ent E cells slots w pc lv (As.reverse ++ rest) y As rest := by
  intro H locs ls T h1 h4 hT X
  obtain ⟨c1, c2, c4, c5, c6⟩ := ci
  have hK := C.2.2.2.2.1
  obtain ⟨mk, hnamed⟩ := Cond.code_named (hK.wm (A := eA E) c4 rfl)
  obtain ⟨methM, cM, hmethM, -, -, -, -, -, -, hsigM⟩ := Cond.code_spec hnamed (hK.wm (A := eA E) c4 rfl)
  have hstatic : methM.isStatic = true := Cond.static_spec hnamed hmethM (hK.wm (A := eA E) c2 rfl)
  obtain ⟨kP, hkP, -⟩ := className_of_methodNamed hnamed
  have hinitP : kP.init = .initialized := Cond.initialized_spec (findClass_of_methodNamed hnamed) hkP (hK.wm (A := eA E) c5 rfl)
  obtain ⟨vm₁, X₁, hstep₁⟩ := X.invokestaticNest C.1 C.2.2.2.1 (hK.wm c1 rfl) hnamed hmethM hstatic hkP hinitP c6.1 (g := F0 (eM E) pc ls (As.reverse ++ rest)) rfl (argsL := As) (rest := rest) (c6.len hn _ hsigM) rfl (by rw [C.2.1]; exact d)
  exact ⟨vm₁, mk, _, X₁.warmed, X₁, X₁.named hnamed, by rw [C.2.1]; exact d, fun target h => hstep₁ _ fun acts => by rw [doInvoke_state]; exact h⟩
theorem ent_vn (C : Cx E cc own nL R) {host : String} (ci : CIvn own index host Cn y bytes maxL ret n) (d : decode cc pc = .ok (.invokevirtual index, 3)) {a : Nat} (hr : Rcv w a Cn) (As : List Value) {rest : List Value} (hn : As.length = n) : Ent E cells slots w pc lv (As.reverse ++ .ref a :: rest) y (.ref a :: As) rest := by
  intro H locs ls T h1 h4 hT X
  obtain ⟨c1, c2, c3, c4, c5, c6⟩ := ci
  have hK := C.2.2.2.2.1
  obtain ⟨cellB, hcB, hoB, hclB⟩ := hr.cell h1 hK
  obtain ⟨mk, methM, hnamed, hmethM, hstM, habM⟩ := Cond.instanceMethod_spec (hK.wm (A := eA E) c2 rfl)
  obtain ⟨methM', cM, hmethM', -, -, -, -, -, -, hsigM⟩ := Cond.code_spec hnamed (hK.wm (A := eA E) c4 rfl)
  cases hmethM.symm.trans hmethM'
  obtain ⟨k2, r2, m2, q1, q2, q3, q4, kP, hkP, hkPi⟩ := Cond.selects_spec (hK.wm (A := eA E) c3 rfl)
  cases hclB.symm.trans q1
  cases (State.methodFound?_of_named hnamed c6.1).symm.trans q2
  cases hnamed.symm.trans q3
  have hselP : selectMethod (eE E).platform (eS E).vm cellB.cls mk = .method mk := by rw [Launch.admits_selectMethod X.admits]; exact q4
  obtain ⟨vm₁, X₁, hstep₁⟩ := X.invokevirtualNest C.1 C.2.2.2.1 (hK.wm c1 rfl) hnamed hmethM hstM hkP hkPi c6.1 (a := a) (cell := cellB) (by rw [hT]; exact hcB)
    (fun z h => by rw [h] at hoB; cases hoB) hselP hmethM habM hkP hkPi (g := F0 (eM E) pc ls (As.reverse ++ .ref a :: rest)) rfl (argsL := As) (rest := rest) (c6.len hn _ hsigM) rfl (by rw [C.2.1]; exact d)
  exact ⟨vm₁, mk, _, X₁.warmed, X₁, X₁.named hnamed, by rw [C.2.1]; exact d, fun target h => hstep₁ _ fun acts => by rw [doInvoke_state]; exact h⟩
theorem ent_i (C : Cx E cc own nL R) (ci : CIi own index y bytes maxL n) (d : decode cc pc = .ok (.invokespecial index, 3)) {a : Nat} (As : List Value) {rest : List Value} (hn : As.length = n) : Ent E cells slots w pc lv (As.reverse ++ .ref a :: rest) y (.ref a :: As) rest := by
  intro H locs ls T h1 h4 hT X
  obtain ⟨c1, c2, c4, c5, c6, c7⟩ := ci
  have hK := C.2.2.2.2.1
  have hpl : (eE E).platform.magicAccessors = ({} : Platform).magicAccessors := by rw [X.admits.platform]
  obtain ⟨mk, methM, cM, kP, vm₁, hnamed, hmethM, hcodeM, -, hlocalsM, -, hkP, -, hW₁, hstep₁⟩ := Steps.initColdArgs (e := eE E) X.here C.1 X.warmed hpl C.2.2.2.1 c7 c6.1 (hK.wm (A := eA E) c1 rfl) (hK.wm (A := eA E) c2 rfl) (hK.wm (A := eA E) c4 rfl) (f := F0 (eM E) pc ls (As.reverse ++ .ref a :: rest)) rfl (c6.len hn) rfl (by rw [C.2.1]; exact d)
  have X₁ := X.noted hW₁
  exact ⟨vm₁, mk, _, X₁.warmed, X₁, X₁.named hnamed, by rw [C.2.1]; exact d, fun target h => hstep₁ _ fun acts => by rw [doInvoke_state]; exact h⟩
theorem ent_in (C : Cx E cc own nL R) {host : String} (ci : CIin own index host y bytes maxL n) (d : decode cc pc = .ok (.invokespecial index, 3)) {a : Nat} (As : List Value) {rest : List Value} (hn : As.length = n) : Ent E cells slots w pc lv (As.reverse ++ .ref a :: rest) y (.ref a :: As) rest := by
  intro H locs ls T h1 h4 hT X
  obtain ⟨c1, c2, c4, c5, c6, c7⟩ := ci
  have hK := C.2.2.2.2.1
  have hpl : (eE E).platform.magicAccessors = ({} : Platform).magicAccessors := by rw [X.admits.platform]
  obtain ⟨mk, methM, cM, kP, vm₁, hnamed, hmethM, hcodeM, -, hlocalsM, -, hkP, -, hW₁, hstep₁⟩ := Steps.initColdArgsNest (e := eE E) X.here C.1 X.warmed hpl C.2.2.2.1 c7 c6.1 (hK.wm (A := eA E) c1 rfl) (hK.wm (A := eA E) c2 rfl) (hK.wm (A := eA E) c4 rfl) (f := F0 (eM E) pc ls (As.reverse ++ .ref a :: rest)) rfl (c6.len hn) rfl (by rw [C.2.1]; exact d)
  have X₁ := X.noted hW₁
  exact ⟨vm₁, mk, _, X₁.warmed, X₁, X₁.named hnamed, by rw [C.2.1]; exact d, fun target h => hstep₁ _ fun acts => by rw [doInvoke_state]; exact h⟩
theorem ent_u (C : Cx E cc own nL R) {owner : String} {x : MethodName} {xb : ByteArray} {xm : Nat} {xr : Option FieldType} (ci : CIu own index Cn owner x y xb xm xr bytes maxL ret n) (d : decode cc pc = .ok (.invokevirtual index, 3)) {a : Nat} (hr : Rcv w a Cn) (As : List Value) {rest : List Value} (hn : As.length = n) : Ent E cells slots w pc lv (As.reverse ++ .ref a :: rest) y (.ref a :: As) rest := by
  intro H locs ls T h1 h4 hT X
  obtain ⟨c1, c2, c3, c4, c5, c6, c7, c8, c9, c10⟩ := ci
  have hK := C.2.2.2.2.1
  obtain ⟨cellB, hcB, hoB, hclB⟩ := hr.cell h1 hK
  obtain ⟨r0, r, hn0, hrm, hstR, hsigR⟩ := va_Decl.of (hK.wm (A := eA E) c7 rfl) (hK.wm (A := eA E) c8 rfl)
  obtain ⟨cn, ck, r1, hcn, hck, hni, hf, hn1⟩ := Cond.sameMethod_found (hK.wm (A := eA E) c2 rfl)
  cases hn0.symm.trans hn1
  obtain ⟨mk, methM, hnamed, hmethM, -, habM⟩ := Cond.instanceMethod_spec (hK.wm (A := eA E) c4 rfl)
  obtain ⟨k2, r2, m2, q1, q2, q3, q4, kP, hkP, hkPi⟩ := Cond.selects_spec (hK.wm (A := eA E) c3 rfl)
  cases hclB.symm.trans q1
  cases hf.symm.trans q2
  cases hnamed.symm.trans q3
  have hselP : selectMethod (eE E).platform (eS E).vm cellB.cls r0 = .method mk := by rw [Launch.admits_selectMethod X.admits]; exact q4
  have hlen : As.length = r.sig.parameters.length := by
    have h2 := c10
    rw [show parseMethodDescriptor x.desc = some r.sig from hsigR] at h2
    exact hn.trans (Option.some.inj h2).symm
  obtain ⟨vm₁, X₁, hstep₁⟩ := X.invokevirtualUp C.1 C.2.2.2.1 (hK.wm c1 rfl) (hK.wm c2 rfl) c9 hn0 hrm hstR (a := a) (cell := cellB) (by rw [hT]; exact hcB)
    (fun z h => by rw [h] at hoB; cases hoB) hselP hmethM habM hkP hkPi (g := F0 (eM E) pc ls (As.reverse ++ .ref a :: rest)) rfl (argsL := As) (rest := rest) hlen rfl (by rw [C.2.1]; exact d)
  exact ⟨vm₁, mk, _, X₁.warmed, X₁, X₁.named hnamed, by rw [C.2.1]; exact d, fun target h => hstep₁ _ fun acts => by rw [doInvoke_state]; exact h⟩
end ENT
