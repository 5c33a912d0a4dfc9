/-! contracts: a method from a world to a world, returning or throwing; the walk's judgement AW over worlds -/
abbrev EE : Type := Program × Launch × Env × Room × State × MethodId × Array Value × List Frame × Method × Code × GG × (Addr → Prop) × (State → Prop)
abbrev eP (E : EE) : Program := E.1
abbrev eL (E : EE) : Launch := E.2.1
abbrev eE (E : EE) : Env := E.2.2.1
abbrev eR (E : EE) : Room := E.2.2.2.1
abbrev eS (E : EE) : State := E.2.2.2.2.1
abbrev eM (E : EE) : MethodId := E.2.2.2.2.2.1
abbrev eA (E : EE) : Array Value := E.2.2.2.2.2.2.1
abbrev eB (E : EE) : List Frame := E.2.2.2.2.2.2.2.1
abbrev eH (E : EE) : Method := E.2.2.2.2.2.2.2.2.1
abbrev eC (E : EE) : Code := E.2.2.2.2.2.2.2.2.2.1
abbrev eG (E : EE) : GG := E.2.2.2.2.2.2.2.2.2.2.1
abbrev eF (E : EE) : Addr → Prop := E.2.2.2.2.2.2.2.2.2.2.2.1
abbrev eQ (E : EE) : State → Prop := E.2.2.2.2.2.2.2.2.2.2.2.2
/-- the walk of E's method, at pc, with locals lv and stack st, in the world w, comes to its end; b: nothing old is written so far -/
def AW (E : EE) (b : Bool) (cells slots : Nat) (w : Wd) (pc : Nat) (lv : List (Nat × Value)) (st : List Value) : Prop :=
  ∀ (H : Heap) (locs : List Loc) (ls : Array Slot), hp (eG E) w H → (∀ q ∈ locs, eF E q.base) → (b = true → locs = []) → lv_has ls (eC E).maxLocals lv →
    W (eP E) (eL E) (eE E) (eR E) (eS E) (eM E) (eA E) (eB E) (eH E) (eC E) H locs cells slots (eQ E) (F0 (eM E) pc ls st)
/-- an exception object of the class number n -/
def exAt (n : Nat) (a : Addr) (H : Heap) (U : State) : Prop := ∃ cell : Cell, H[a]? = some cell ∧ cell.vm.isStatics = false ∧ U.vm.findClass (exN n) = some cell.cls
/-- the same walk with an exception of class n in flight over the frame at pc -/
def AT (E : EE) (b : Bool) (cells slots : Nat) (w : Wd) (pc : Nat) (lv : List (Nat × Value)) (n : Nat) : Prop :=
  ∀ (H : Heap) (locs : List Loc) (ls : Array Slot) (st : List Value) (a : Addr), hp (eG E) w H → (∀ q ∈ locs, eF E q.base) → (b = true → locs = []) → lv_has ls (eC E).maxLocals lv → exAt n a H (eS E) →
    ∀ T : State, T.heap = H → Stand (eP E) (eL E) (eE E) (eR E) (eS E) (eM E) (eA E) (eB E) (eH E) (eC E) T locs cells slots → ∃ t, Steps (eP E).tables (eE E) (eB E) ((T.setTop (F0 (eM E) pc ls st)).pushFrame (.throwing a)) t ∧ eQ E t
abbrev Cx (E : EE) (cc : ByteArray) (own : String) (nL : Nat) (R : Room) : Prop :=
  (eP E).tables.exec = Jvm.exec ∧ (eC E).code = cc ∧ (eC E).maxLocals = nL ∧ (eS E).vm.findClass own = some (eM E).cls ∧ Kg (eG E) (eS E) ∧ (eH E).locks = false ∧ (eL E).flags = flags0 ∧ eR E = R
abbrev Cw (E : EE) : Prop := ∀ a : Nat, (gH (eG E)).size ≤ a → eF E a
/-- a contract's end -/
def QX (G : GG) (post : Rs → Wd → Prop) (st : State) (o : Outcome) (t : State) : Prop :=
  ∃ w' : Wd, hp G w' t.heap ∧ ((∃ v, o = .returned v ∧ post (.inl v) w') ∨ ∃ (n : Nat) (a : Addr), o = .threw a ∧ post (.inr n) w' ∧ exAt n a t.heap st)
def FX (st t : State) (mc ms : Nat) (F : Addr → Prop) : Prop := st.WarmedH t.vm ∧ ∃ L, st.sameButNew ({ t with vm := st.vm } : State) L mc ms ∧ ∀ q ∈ L, F q.base
def ZX (G : GG) (below : List Frame) (post : Rs → Wd → Prop) (s : State) (mc ms : Nat) (F : Addr → Prop) : State → Prop := fun t =>
  ∃ o, t.status = .running ∧ Ended t below o ∧ QX G post s o t ∧ FX s t mc ms F
def rmd (d mc ms : Nat) : Room := { frames := d, cells := mc, slots := ms, locals := 37 * d }
/-- THE CONTRACT of y at the world w with the arguments av: it ends, 'post' of its result and of the world behind it; wc: its code's word -/
def CT (l : Launch) (G : GG) (y : MethodName) (wc : Cond) (d mc ms : Nat) (F : Addr → Prop) (w : Wd) (av : List Value) (post : Rs → Wd → Prop) : Prop :=
  l.flags = flags0 → MetFree l y (headSpec [wc] (rmd d mc ms)) (fun a U => a = av.toArray ∧ hp G w U.heap ∧ Kg G U) (fun _ _ _ _ _ => True) (fun _ st o t => QX G post st o t ∧ FX st t mc ms F)
abbrev Fno : Addr → Prop := fun _ => False
abbrev Fyes (G : GG) : Addr → Prop := fun a => (gH G).size ≤ a
theorem CT.mono {l : Launch} {G : GG} {y : MethodName} {wc : Cond} {d mc ms : Nat} {F : Addr → Prop} {av : List Value} {w : Wd} {post post' : Rs → Wd → Prop} (h : CT l G y wc d mc ms F w av post) (hp : ∀ r w', post r w' → post' r w') : CT l G y wc d mc ms F w av post' := by
  intro hfl p e ha hc hk s m args below hf happ hP hK
  obtain ⟨n, o, h1, h2, h3, ⟨w', h4, h5⟩, h6⟩ := h hfl p e ha hc hk s m args below hf happ hP hK
  refine ⟨n, o, h1, h2, h3, ⟨w', h4, ?_⟩, h6⟩
  rcases h5 with ⟨v, e1, e2⟩ | ⟨n, a, e1, e2, e3⟩
  · exact Or.inl ⟨v, e1, hp _ _ e2⟩
  · exact Or.inr ⟨n, a, e1, hp _ _ e2, e3⟩
/-- what the end of a walk is, in a contract's proof -/
abbrev Cr (E : EE) (ret : Option FieldType) (post : Rs → Wd → Prop) (mc ms : Nat) : Prop :=
  (eH E).sig.returnType = ret ∧ ∀ t : State, ZX (eG E) (eB E) post (eS E) mc ms (eF E) t → eQ E t
section OF
variable {l : Launch} {G : GG} {y : MethodName} {cc : ByteArray} {nL : Nat} {ret : Option FieldType} {d mc ms : Nat} {F : Addr → Prop} {av : List Value} {w : Wd} {post : Rs → Wd → Prop}
/-- a contract out of the walk of the body -/
theorem CT.of (hy : plainName y.cls = true) (hn : (lg_sl av).length ≤ nL) {lv : List (Nat × Value)} (hlv : lv_args 0 av = lv)
    (body : ∀ E : EE, l = eL E → G = eG E → eF E = F → Cx E cc y.cls nL (rmd d mc ms) → Cr E ret post mc ms → hp (eG E) w (eS E).heap → (eC E).exceptionTable.toList = [] → (eH E).name = y.name → AW E true 0 0 w 0 lv []) :
    CT l G y (.code y cc nL ret) d mc ms F w av post := by
  intro hfl
  refine MetFree.of_bodyS (code := cc) (maxLocals := nL) (ret := ret) hy ?_ ?_
  · intro args s m h hn
    obtain ⟨meth, c, h1, h2, h3, h4, h5, h6, -, -⟩ := Cond.code_spec hn (atoms_spec (ws := [Cond.code y cc nL ret]) h _ List.mem_cons_self)
    exact ⟨meth, c, h1, h2, h3, h4, h5, h6⟩
  · intro p e s m args below meth c s₁ B hml hP _
    obtain ⟨rfl, hH, hK⟩ := hP
    have hh0 : s₁.heap = s.heap := by rw [B.state]; rfl
    obtain ⟨meth', c', h1, h2, -, -, -, -, hex, -⟩ := Cond.code_spec B.named (atoms_spec (ws := [Cond.code y cc nL ret]) B.pre _ List.mem_cons_self)
    have X := Stand.of_body B
    cases B.method.symm.trans h1
    cases X.code.symm.trans h2
    have hA := body (p, l, e, rmd d mc ms, s, m, av.toArray, below, meth, c, G, F, ZX G below post s mc ms F) rfl rfl rfl
      ⟨B.exec, B.bytes, hml, findClass_of_methodNamed B.named, hK, B.notSynchronized, hfl, rfl⟩ ⟨B.returns, fun t h => h⟩ hH (by simpa using hex) (name_of_methodNamed B.named B.method).1
    have hl := lv_entry av (n := nL) hn
    have hW := hA s.heap [] _ hH (fun q h => by cases h) (fun _ => rfl) (by rw [hlv] at hl; show lv_has _ c.maxLocals lv; rw [hml]; exact hl)
    rw [← lg_entry_eq] at hW
    obtain ⟨t, a1, o, b1, b2, b3, b4⟩ := hW s₁ hh0 X
    exact ⟨t, o, a1, b1, b2, b3, b4⟩
/-- the same for a method with handlers -/
theorem CT.ofH {hh : List (Nat × Nat × Nat × Nat)} (hy : plainName y.cls = true) (hn : (lg_sl av).length ≤ nL) {lv : List (Nat × Value)} (hlv : lv_args 0 av = lv)
    (body : ∀ E : EE, l = eL E → G = eG E → eF E = F → Cx E cc y.cls nL (rmd d mc ms) → Cr E ret post mc ms → hp (eG E) w (eS E).heap → (eC E).exceptionTable.toList.map (fun h => (h.startPc, h.endPc, h.handlerPc, h.catchType)) = hh → AW E true 0 0 w 0 lv []) :
    CT l G y (.codeWith y cc nL ret hh) d mc ms F w av post := by
  intro hfl
  refine MetFree.of_bodyS (code := cc) (maxLocals := nL) (ret := ret) hy ?_ ?_
  · intro args s m h hn
    obtain ⟨m9, meth, c, hn9, h1, h2, h3, h4, -, h5, h6, -⟩ := Cond.codeWith_spec (atoms_spec (ws := [Cond.codeWith y cc nL ret hh]) h _ List.mem_cons_self)
    cases hn.symm.trans hn9
    exact ⟨meth, c, h1, h2, h3, h4, h5, h6⟩
  · intro p e s m args below meth c s₁ B hml hP _
    obtain ⟨rfl, hH, hK⟩ := hP
    have hh0 : s₁.heap = s.heap := by rw [B.state]; rfl
    obtain ⟨m9, meth', c', hn9, h1, h2, -, -, hex, -, -, -⟩ := Cond.codeWith_spec (atoms_spec (ws := [Cond.codeWith y cc nL ret hh]) B.pre _ List.mem_cons_self)
    have X := Stand.of_body B
    cases B.named.symm.trans hn9
    cases B.method.symm.trans h1
    cases X.code.symm.trans h2
    have hA := body (p, l, e, rmd d mc ms, s, m, av.toArray, below, meth, c, G, F, ZX G below post s mc ms F) rfl rfl rfl
      ⟨B.exec, B.bytes, hml, findClass_of_methodNamed B.named, hK, B.notSynchronized, hfl, rfl⟩ ⟨B.returns, fun t h => h⟩ hH hex
    have hl := lv_entry av (n := nL) hn
    have hW := hA s.heap [] _ hH (fun q h => by cases h) (fun _ => rfl) (by rw [hlv] at hl; show lv_has _ c.maxLocals lv; rw [hml]; exact hl)
    rw [← lg_entry_eq] at hW
    obtain ⟨t, a1, o, b1, b2, b3, b4⟩ := hW s₁ hh0 X
    exact ⟨t, o, a1, b1, b2, b3, b4⟩
end OF
section BACK
variable {p : Program} {l : Launch} {e : Env} {R : Room} {s : State} {m : MethodId} {sargs : Array Value} {below : List Frame} {meth : Method} {c : Code} {U : State} {Ls : List Loc} {c0 s0 len : Nat}
/-- what a call of a method with a free contract comes back with: its value behind the call, or its exception over the calling frame -/
theorem fw_back {y : MethodName} {S : Spec} {P : Array Value → State → Prop} {Q : Array Value → State → Outcome → State → Prop} {maxL mc ms : Nat} {F : Addr → Prop}
    (hM : MetFree l y S P (fun _ _ _ _ _ => True) Q) (hframes : S.room.frames + 1 ≤ R.frames) (hlocals : 8 + (maxL + 11) + S.room.locals ≤ R.locals)
    (X : Stand p l e R s m sargs below meth c U Ls c0 s0) {g : JFrame} {ig : Instr} {mk : MethodId} {a : Array Value} (hg : g.method = m) (hsize : g.locals.size = c.maxLocals) (hdg : decode c.code g.pc = .ok (ig, len))
    (hn : U.methodNamed? y = some mk) (hw8 : 2 * g.monitorRoom + (g.stack.map fun v => v.category).sum ≤ 8) (hcode : ∃ (methY : Method) (cY : Code), U.vm.method? mk = some methY ∧ methY.code = some cY ∧ cY.maxLocals = maxL)
    (hini : (Cond.initialized y.cls).before a U = true) (hpre : S.pre.before a U = true) (hcells : c0 + S.room.cells ≤ R.cells) (hslots : s0 + S.room.slots ≤ R.slots) (hP : P a (U.calling g mk a))
    (hQ : ∀ (st t : State) (o : Outcome), Q a st o t → FX st t mc ms F) :
    ∃ (o : Outcome) (t U' : State) (L : List Loc), Q a (U.calling g mk a) o t ∧ U'.heap = t.heap ∧ Stand p l e R s m sargs below meth c U' (Ls ++ L) (c0 + mc) (s0 + ms) ∧ (∀ q ∈ L, F q.base) ∧
      ((∃ v, o = .returned v ∧ Steps p.tables e below (doInvoke e (U.setTop g) [] mk a).1 (U'.setTop { g with pc := g.pc + len, stack := v.toList ++ g.stack })) ∨
       ∃ x, o = .threw x ∧ Steps p.tables e below (doInvoke e (U.setTop g) [] mk a).1 ((U'.setTop g).pushFrame (.throwing x))) := by
  obtain ⟨methY, cY, hmY, hcY, hlY⟩ := hcode
  obtain ⟨kY, hkY, -⟩ := className_of_methodNamed hn
  have hinitY : kY.init = .initialized := Cond.initialized_spec (findClass_of_methodNamed hn) hkY hini
  have h : At U g.method c below := by rw [hg]; exact X.here
  have happ : S.appliesLoose y e.platform (U.calling g mk a) = true :=
    Spec.appliesLoose_calling (g := g) h hdg hn hkY hinitY (X.room_calling (g := g) (R' := S.room) hsize hmY hcY hframes (by rw [hlY]; omega) hcells hslots) hpre
  obtain ⟨mid, hmid⟩ := h.above
  have hfr : (U.setTop g).frames = (.java g :: mid) ++ below := by rw [State.frames_setTop' g h.top, hmid]; rfl
  obtain ⟨o, t, hsteps, -, hend, hq⟩ := Steps.callFree hM p X.admits X.cas X.clock (acts := []) hfr happ hP trivial
  have hq' : Q a (U.calling g mk a) o t := hq
  rw [State.frames_setTop' g h.top] at hend
  obtain ⟨hW₂, L, ⟨e2, q2, q3, q4, q5, q6⟩, hL⟩ := hQ _ _ _ hq'
  have e3 : t = ({ (U.calling g mk a).setFrames t.frames with heap := t.heap, slotsUsed := t.slotsUsed } : State).setVm t.vm := by
    have z : t = ({ t with vm := (U.calling g mk a).vm } : State).setVm t.vm := rfl
    rw [e2] at z
    exact z
  have hW' : U.WarmedH t.vm := hW₂
  obtain ⟨g₀, hg0⟩ := Option.isSome_iff_exists.mp h.top
  obtain ⟨r, hr⟩ := State.topJava?_eq_some.mp hg0
  have hr' : (({ U with heap := t.heap, slotsUsed := t.slotsUsed } : State).setVm t.vm).frames = .java g₀ :: r := hr
  have hsame : U.sameButNew ({ U with heap := t.heap, slotsUsed := t.slotsUsed } : State) L mc ms := by
    refine ⟨?_, q2, q3, q4, q5, q6⟩
    obtain ⟨th, hth, -⟩ := State.frames_cons hr
    show ({ U with heap := t.heap, slotsUsed := t.slotsUsed } : State) = { U.setFrames U.frames with heap := t.heap, slotsUsed := t.slotsUsed }
    rw [State.setFrames_self hth]
  subst hg
  refine ⟨o, t, (({ U with heap := t.heap, slotsUsed := t.slotsUsed } : State).setVm t.vm), L, hq', rfl,
    ⟨X.admits, X.cas, X.clock, X.frames, X.room, X.hears, X.method, X.code, (X.here.setHeapUsed t.heap t.slotsUsed).setVm hW'.alike, X.tail, State.WarmedH.trans X.warmed hW', X.limits, X.bytes, X.same.trans (hsame.setVm s.vm)⟩, hL, ?_⟩
  cases o with
  | returned v =>
    refine Or.inl ⟨v, rfl, ?_⟩
    obtain ⟨c₂, i₂, len₂, hc₂, hd₂, hf₂⟩ := hend
    have hcc : c₂ = c := by
      have h1 : t.code? g.method = U.code? g.method := by rw [State.code?_eq, State.code?_eq, hW'.alike.method?]
      exact Option.some.inj (hc₂.symm.trans (h1.trans h.code))
    subst hcc
    have hlen : len₂ = len := by rw [hdg] at hd₂; cases hd₂; rfl
    subst hlen
    have hs₂ : t = (({ U with heap := t.heap, slotsUsed := t.slotsUsed } : State).setVm t.vm).setTop { g with pc := g.pc + len₂, stack := v.toList ++ g.stack } := by
      refine e3.trans ?_
      rw [hf₂, State.calling_eq h.top, State.setFrames_setFrames, State.setTop_of_frames _ hr', hr]
      rfl
    rw [← hs₂]
    exact hsteps
  | threw x =>
    refine Or.inr ⟨x, rfl, ?_⟩
    have hf₂ : t.frames = .throwing x :: .java g :: U.frames.tail := hend
    have hs₂ : t = ((({ U with heap := t.heap, slotsUsed := t.slotsUsed } : State).setVm t.vm).setTop g).pushFrame (.throwing x) := by
      refine e3.trans ?_
      rw [hf₂, State.calling_eq h.top, State.setFrames_setFrames, State.pushFrame, State.frames_setTop _ hr', State.setTop_of_frames _ hr', State.setFrames_setFrames, hr]
      rfl
    rw [← hs₂]
    exact hsteps
end BACK
