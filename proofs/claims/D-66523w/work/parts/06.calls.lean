/-! returns, calls, exceptions over AW -/
theorem W.mono {p : Program} {l : Launch} {e : Env} {R : Room} {s : State} {m : MethodId} {args : Array Value} {below : List Frame} {meth : Method} {c : Code} {H : Heap} {locs : List Loc} {cells slots : Nat} {Q Q' : State → Prop} {g : JFrame} (h : ∀ t, Q t → Q' t) (k : W p l e R s m args below meth c H locs cells slots Q g) : W p l e R s m args below meth c H locs cells slots Q' g := by
  intro T hT X
  obtain ⟨t, a, b⟩ := k T hT X
  exact ⟨t, a, h t b⟩
theorem zx_of {G : GG} {below : List Frame} {post : Rs → Wd → Prop} {args : Array Value} {s : State} {mc ms : Nat} {F : Addr → Prop} {t : State} (h : MQ below (fun _ st o t => QX G post st o t) args s mc ms F t) : ZX G below post s mc ms F t := by
  obtain ⟨o, h1, h2, h3, L, ⟨-, h4, h5⟩, h6⟩ := h
  exact ⟨o, h1, h2, h3, h4, L, h5, h6⟩
section RET
variable {E : EE} {cc : ByteArray} {own : String} {nL : Nat} {R : Room} {b : Bool} {cells slots : Nat} {w : Wd} {pc : Nat} {lv : List (Nat × Value)} {st : List Value} {post : Rs → Wd → Prop} {mc ms : Nat}
theorem aw_ret_i (C : Cx E cc own nL R) {ty : FieldType} (r : Cr E (some ty) post mc ms) {v : Int32} (d : decode cc pc = .ok (.ireturn, 1)) (hn : narrow ty (.int v) = .int v) (hc : cells ≤ mc) (hs : slots ≤ ms) (hq : post (.inl (some (.int v))) w) : AW E b cells slots w pc lv [.int v] :=
  fun H locs ls h1 h2 h3 h4 => W.widen hc hs (W.mono (fun t ht => r.2 t (zx_of ht)) (W.zret (Qc := fun _ st o t => QX (eG E) post st o t) (free := eF E) C.1 C.2.1 r.1 hn (fun t ht _ => ⟨w, by rw [ht]; exact h1, Or.inl ⟨_, rfl, hq⟩⟩) h2 d C.2.2.2.2.2.1))
theorem aw_ret_l (C : Cx E cc own nL R) (r : Cr E (some .long) post mc ms) {v : Int64} (d : decode cc pc = .ok (.lreturn, 1)) (hc : cells ≤ mc) (hs : slots ≤ ms) (hq : post (.inl (some (.long v))) w) : AW E b cells slots w pc lv [.long v] :=
  fun H locs ls h1 h2 h3 h4 => W.widen hc hs (W.mono (fun t ht => r.2 t (zx_of ht)) (W.lret (Qc := fun _ st o t => QX (eG E) post st o t) (free := eF E) C.1 C.2.1 r.1 (fun t ht _ => ⟨w, by rw [ht]; exact h1, Or.inl ⟨_, rfl, hq⟩⟩) h2 d C.2.2.2.2.2.1))
theorem aw_ret_v (C : Cx E cc own nL R) (r : Cr E none post mc ms) (d : decode cc pc = .ok (.return_, 1)) (hc : cells ≤ mc) (hs : slots ≤ ms) (hq : post (.inl none) w) : AW E b cells slots w pc lv [] :=
  fun H locs ls h1 h2 h3 h4 => W.widen hc hs (W.mono (fun t ht => r.2 t (zx_of ht)) (W.vret (Qc := fun _ st o t => QX (eG E) post st o t) (free := eF E) C.1 C.2.1 r.1 (fun t ht _ => ⟨w, by rw [ht]; exact h1, Or.inl ⟨_, rfl, hq⟩⟩) h2 d C.2.2.2.2.2.1))
theorem aw_ret_a (C : Cx E cc own nL R) {rt : FieldType} (r : Cr E (some rt) post mc ms) {v : Value} (hrt : (∃ n, rt = .object n) ∨ ∃ t, rt = .array t) (hv : v = .null ∨ ∃ a, v = .ref a) (d : decode cc pc = .ok (.areturn, 1)) (hc : cells ≤ mc) (hs : slots ≤ ms) (hq : post (.inl (some v)) w) : AW E b cells slots w pc lv [v] :=
  fun H locs ls h1 h2 h3 h4 => W.widen hc hs (W.mono (fun t ht => r.2 t (zx_of ht)) (W.aret (Qc := fun _ st o t => QX (eG E) post st o t) (free := eF E) C.1 C.2.1 r.1 hrt hv (fun t ht _ => ⟨w, by rw [ht]; exact h1, Or.inl ⟨_, rfl, hq⟩⟩) h2 d C.2.2.2.2.2.1))
end RET
/-- how a callee's writes lie in the caller's -/
abbrev FP (E : EE) (F : Addr → Prop) (b b' : Bool) : Prop := (∀ a, F a → eF E a) ∧ (b' = true → b = true ∧ ∀ a, ¬ F a)
theorem fpP {E : EE} {b : Bool} : FP E Fno b b := ⟨fun _ h => h.elim, fun h => ⟨h, fun _ h => h⟩⟩
theorem fpW {E : EE} {b : Bool} (h : Cw E) : FP E (Fyes (eG E)) b false := ⟨h, fun h => by cases h⟩
/-- an invoke that comes to the invocation of y with the arguments av, 'rest' left on the stack -/
def Ent (E : EE) (cells slots : Nat) (w : Wd) (pc : Nat) (lv : List (Nat × Value)) (st : List Value) (y : MethodName) (av rest : List Value) : Prop :=
  ∀ (H : Heap) (locs : List Loc) (ls : Array Slot) (T : State), hp (eG E) w H → lv_has ls (eC E).maxLocals lv → T.heap = H → Stand (eP E) (eL E) (eE E) (eR E) (eS E) (eM E) (eA E) (eB E) (eH E) (eC E) T locs cells slots →
    ∃ (vm₁ : Vm) (mk : MethodId) (ig : Instr), (eS E).WarmedH vm₁ ∧ Stand (eP E) (eL E) (eE E) (eR E) (eS E) (eM E) (eA E) (eB E) (eH E) (eC E) (T.setVm vm₁) locs cells slots ∧ (T.setVm vm₁).methodNamed? y = some mk ∧ decode (eC E).code pc = .ok (ig, 3) ∧
      ∀ target, Steps (eP E).tables (eE E) (eB E) (doInvoke (eE E) ((T.setVm vm₁).setTop (F0 (eM E) pc ls rest)) [] mk av.toArray).1 target → Steps (eP E).tables (eE E) (eB E) (T.setTop (F0 (eM E) pc ls st)) target
section CALL
variable {E : EE} {cc : ByteArray} {own : String} {nL : Nat} {R : Room} {b b' : Bool} {cells slots : Nat} {w : Wd} {pc : Nat} {lv : List (Nat × Value)} {st : List Value}
theorem Kg.at {G : GG} {U : State} {g : JFrame} {mk : MethodId} {a : Array Value} (h : Kg G U) : Kg G (U.calling g mk a) := Kg.moved (U := U.calling g mk a) h (State.WarmedH.refl U)
/-- THE CALL: the callee's contract, the rest of the walk behind it, and behind its exceptions -/
theorem aw_call (C : Cx E cc own nL R) {y : MethodName} {wc : Cond} {d mc ms maxL : Nat} {F : Addr → Prop} {av rest : List Value} {post : Rs → Wd → Prop} (hM : CT (eL E) (eG E) y wc d mc ms F w av post)
    (hen : Ent E cells slots w pc lv st y av rest) (hwc : wc ∈ lw_tbl) (hmv : mvs wc = true)
    (hcode : ∀ (U : State) (mk : MethodId), U.methodNamed? y = some mk → wc.before av.toArray U = true → ∃ (methY : Method) (cY : Code), U.vm.method? mk = some methY ∧ methY.code = some cY ∧ cY.maxLocals = maxL)
    (hini : Cond.initialized y.cls ∈ lw_tbl) (hfp : FP E F b b') (h8 : (rest.map fun v => v.category).sum ≤ 8)
    (hroom : d + 1 ≤ R.frames ∧ 8 + (maxL + 11) + 37 * d ≤ R.locals) (hcs : cells + mc ≤ R.cells ∧ slots + ms ≤ R.slots)
    (k1 : ∀ (v : Option Value) (w' : Wd), post (.inl v) w' → AW E b' (cells + mc) (slots + ms) w' (pc + 3) lv (v.toList ++ rest))
    (k2 : ∀ (n : Nat) (w' : Wd), post (.inr n) w' → AT E b' (cells + mc) (slots + ms) w' pc lv n) : AW E b cells slots w pc lv st := by
  intro H locs ls h1 h2 h3 h4 T hT X
  obtain ⟨vm₁, mk, ig, hW, X₁, hn, hdg, hst⟩ := hen H locs ls T h1 h4 hT X
  have hK1 : Kg (eG E) (T.setVm vm₁) := C.2.2.2.2.1.moved hW
  have hw : wc.before av.toArray (T.setVm vm₁) = true := hK1.wm hwc hmv
  have hR : eR E = R := C.2.2.2.2.2.2.2
  obtain ⟨o, t, U', L, ⟨hq, -⟩, hheap, X', hL, hor⟩ := fw_back (F := F) (mc := mc) (ms := ms) (maxL := maxL) (hM C.2.2.2.2.2.2.1) (by rw [hR]; exact hroom.1) (by rw [hR]; exact hroom.2) X₁ (g := F0 (eM E) pc ls rest) (a := av.toArray) rfl h4.1 hdg hn
    (lv_room (rest := rest) (pc := pc) (ls := ls) (m := eM E) h8) (hcode _ mk hn hw) (hK1.wm hini rfl) (atoms_intro fun c hc => by rw [List.mem_singleton.mp hc]; exact hw) (by rw [hR]; exact hcs.1) (by rw [hR]; exact hcs.2)
    ⟨rfl, by show hp (eG E) w T.heap; rw [hT]; exact h1, hK1.at⟩ (fun _ _ _ h => h.2)
  have hlocs : ∀ q ∈ locs ++ L, eF E q.base := fun q hq => by
    rcases List.mem_append.mp hq with z | z
    · exact h2 q z
    · exact hfp.1 _ (hL q z)
  have hb' : b' = true → locs ++ L = [] := fun z => by
    obtain ⟨z1, z2⟩ := hfp.2 z
    rw [h3 z1]
    cases L with
    | nil => rfl
    | cons q L => exact absurd (hL q List.mem_cons_self) (z2 _)
  obtain ⟨w', hp', hpo⟩ := hq
  rcases hor with ⟨v, ho, hs⟩ | ⟨x, ho, hs⟩
  · rcases hpo with ⟨v', e1, e2⟩ | ⟨n, a, e1, -⟩
    · cases ho.symm.trans e1
      obtain ⟨t', a1, b1⟩ := k1 v w' e2 t.heap (locs ++ L) ls hp' hlocs hb' h4 U' hheap X'
      exact ⟨t', hst _ (hs.trans a1), b1⟩
    · cases ho.symm.trans e1
  · rcases hpo with ⟨v', e1, -⟩ | ⟨n, a, e1, e2, e3⟩
    · cases ho.symm.trans e1
    · cases ho.symm.trans e1
      have e4 : exAt n x t.heap (eS E) := by
        obtain ⟨cell, z1, z2, z3⟩ := e3
        refine ⟨cell, z1, z2, ?_⟩
        rw [← z3]
        exact (hW.alike.findClass ..).symm
      obtain ⟨t', a1, b1⟩ := k2 n w' e2 t.heap (locs ++ L) ls rest x hp' hlocs hb' h4 e4 U' hheap X'
      exact ⟨t', hst _ (hs.trans a1), b1⟩
/-- the exception leaves the method -/
theorem at_leave (C : Cx E cc own nL R) {ret : Option FieldType} {post : Rs → Wd → Prop} {mc ms n : Nat} (r : Cr E ret post mc ms) (hex : (eC E).exceptionTable.toList = []) (hc : cells ≤ mc) (hs : slots ≤ ms) (hq : post (.inr n) w) : AT E b cells slots w pc lv n := by
  intro H locs ls st a h1 h2 h3 h4 h5 T hT X
  obtain ⟨g1, g2, g3, g4, g5⟩ := X.leaveThrown a (g := F0 (eM E) pc ls st) rfl rfl rfl (by rw [hex]; intro x hx; cases hx) C.2.2.2.2.2.1
  exact ⟨_, g1, r.2 _ ⟨.threw a, g2, g3, ⟨w, by show hp (eG E) w T.heap; rw [hT]; exact h1, Or.inr ⟨n, a, rfl, hq, by show exAt n a T.heap (eS E); rw [hT]; exact h5⟩⟩, g4, locs, g5.mono hc hs, h2⟩⟩
end CALL
