/-! an exception caught in the method: the search resolves the rows' classes, cold or warm -/
theorem fh_cold {e : Env} {s : State} {f : JFrame} {a : Addr} {Q : Handler → Pre} {Z : CtlPost} {dt : Bool} {acts : List Action} {x : ExceptionTableEntry} {t : List ExceptionTableEntry} {c : ClassId} {cell : Cell} {vm' : Vm} (hx : covers x f.pc = true) (h0 : x.catchType ≠ 0)
    (hg : (Jvm.resolveClass f.method.cls x.catchType).Gives e.toSetting s.vm (.ok c) vm') (hsz : vm'.classes.size ≤ s.vm.classes.size) (hcell : s.heap[a]? = some cell) (hobj : ∀ k, cell.vm ≠ .statics k)
    (hk : ∃ k, vm'.classes[cell.cls]? = some k) (hc : ∃ k, vm'.classes[c]? = some k) :
    wp (findHandler.go f a (x :: t)) Q Z e dt acts s ↔ if vm'.assignable cell.cls c = true then Q (.found x.handlerPc) dt acts (s.setVm vm') else wp (findHandler.go f a t) Q Z e dt acts (s.setVm vm') := by
  simp only [covers] at hx
  obtain ⟨g1, g2⟩ : (VmOp.resolveClass f.method.cls x.catchType).answer e s.vm = .ok c ∧ (VmOp.resolveClass f.method.cls x.catchType).tables e s.vm = vm' := hg.op rfl
  have hl : (VmOp.resolveClass f.method.cls x.catchType).lands e s = .done (s.setVm vm') := by
    rw [VmOp.lands_same (by rw [g2]; exact hsz), g2]
  have hcell' : (s.setVm vm').heap[a]? = some cell := hcell
  cases hfit : vm'.assignable cell.cls c <;>
    simp [findHandler.go, hx, h0, hl, g1, hcell, hobj, hk, hc, hfit, VmOp.dirties, VmOp.acts]
def ctk : List (Nat × Nat × Nat × Nat) → List Nat → Nat → Option Nat
  | q :: t, k :: ks, n => if k = n then some q.2.2.1 else ctk t ks n
  | _, _, _ => none
def hOK (own : String) (pc : Nat) : List (Nat × Nat × Nat × Nat) → List Nat → Prop
  | [], _ => True
  | _ :: _, [] => False
  | q :: t, k :: ks => ((q.1 ≤ pc ∧ pc < q.2.1) ∧ q.2.2.2 ≠ 0 ∧ Cond.classLink own q.2.2.2 (exN k) ∈ lw_tbl ∧ k < 4) ∧ hOK own pc t ks
theorem nc_any : ∀ n, n < 4 → ∀ k, k < 4 → n ≠ k → fw_nc.any (fun q => decide (q.1 = exN n) && decide (q.2 = exN k)) = true := by decide +kernel
theorem nc_all (n : Nat) (hn : n < 4) (k : Nat) (hk : k < 4) (h : n ≠ k) : (exN n, exN k) ∈ fw_nc := by
  obtain ⟨q, h1, h2⟩ := List.any_eq_true.mp (nc_any n hn k hk h)
  simp only [Bool.and_eq_true, decide_eq_true_eq] at h2
  rw [← h2.1, ← h2.2]
  exact h1
abbrev tup4 (h : ExceptionTableEntry) : Nat × Nat × Nat × Nat := (h.startPc, h.endPc, h.handlerPc, h.catchType)
theorem fh_go {e : Env} {s0 : State} {G : GG} (hK : Kg G s0) {f : JFrame} {own : String} (hpl : e.platform.magicAccessors = ({} : Platform).magicAccessors) (hown : s0.vm.findClass own = some f.method.cls) {n : Nat} (hn : n < 4) {a : Addr} {cell : Cell} (hobj : cell.vm.isStatics = false) (hcls : s0.vm.findClass (exN n) = some cell.cls) {h : Nat} :
    ∀ (t : List ExceptionTableEntry) (ks : List Nat) (U : State), hOK own f.pc (t.map tup4) ks → s0.WarmedH U.vm → U.heap[a]? = some cell → ctk (t.map tup4) ks n = some h →
      ∃ vm' : Vm, s0.WarmedH vm' ∧ ∀ (Q : Handler → Pre) (Z : CtlPost) (dt : Bool) (acts : List Action), wp (findHandler.go f a t) Q Z e dt acts U ↔ Q (.found h) dt acts (U.setVm vm') := by
  intro t
  induction t with
  | nil => intro ks U _ _ _ hr; simp [ctk] at hr
  | cons x t ih =>
    intro ks U hok hW hcell hr
    cases ks with
    | nil => exact hok.elim
    | cons k ks =>
      obtain ⟨⟨⟨g1, g2⟩, g3, g4, g5⟩, hok⟩ := hok
      obtain ⟨c, hc, hcl⟩ := Cond.classLink_spec hown (hK.wm (A := #[]) g4 rfl) e.platform hpl
      obtain ⟨hg, hW1, -⟩ := State.classEntry (e := e) hW hcl
      generalize hvm : U.vm.noted f.method.cls x.catchType (.cls c) = vm1 at hg hW1
      have hsz : vm1.classes.size ≤ U.vm.classes.size := by rw [← hvm]; simp
      have hcov : covers x f.pc = true := by simp only [covers, Bool.and_eq_true, decide_eq_true_eq]; exact ⟨g1, g2⟩
      have hex1 : ∃ k, vm1.classes[cell.cls]? = some k := Vm.classAt_of_findClass (name := exN n) (by rw [hW1.alike.findClass]; exact hcls)
      have hex2 : ∃ k, vm1.classes[c]? = some k := Vm.classAt_of_findClass (name := exN k) (by rw [hW1.alike.findClass]; exact hc)
      have hasg : vm1.assignable cell.cls c = s0.vm.assignable cell.cls c := hW1.alike.assignable ..
      by_cases hkn : k = n
      · subst hkn
        cases hc.symm.trans hcls
        have hr' : h = x.handlerPc := by simp [ctk] at hr; exact hr.symm
        refine ⟨vm1, hW1, fun Q Z dt acts => ?_⟩
        rw [fh_cold hcov g3 hg hsz hcell (fun z q => by rw [q] at hobj; cases hobj) hex1 hex2, if_pos (by rw [hasg]; exact va_asg _ _), hr']
      · have hr' : ctk (t.map tup4) ks n = some h := by
          have : ctk ((x :: t).map tup4) (k :: ks) n = ctk (t.map tup4) ks n := by simp [ctk, hkn]
          rw [← this]; exact hr
        obtain ⟨vm', hW', hgo⟩ := ih ks (U.setVm vm1) hok hW1 hcell hr'
        have hno : s0.vm.assignable cell.cls c = false := by
          obtain ⟨c1, c2, z1, z2, z3⟩ := hK.2.2.2.2.2.2 _ (nc_all n hn k g5 (fun q => hkn q.symm))
          cases hcls.symm.trans z1
          cases hc.symm.trans z2
          exact z3
        refine ⟨vm', hW', fun Q Z dt acts => ?_⟩
        rw [fh_cold hcov g3 hg hsz hcell (fun z q => by rw [q] at hobj; cases hobj) hex1 hex2, if_neg (by rw [hasg, hno]; decide), hgo]
        rfl
theorem st_catch {e : Env} {s : State} {a : Addr} {f : JFrame} {r : List Frame} {pc : Nat} {vm' : Vm} (hfind : ∀ (Q : Handler → Pre) (Z : CtlPost) (dt : Bool) (acts : List Action), wp (findHandler f a) Q Z e dt acts s ↔ Q (.found pc) dt acts (s.setVm vm')) :
    (stepThrowing e s a (.java f :: r)).Is ((s.setVm vm').setFrames (.java { f with pc := pc, stack := [.ref a] } :: r)) [] := by
  simp only [stepThrowing, searchFrame, vmDo]
  generalize hr : Sem.go _ e false [] s = res
  obtain ⟨as, rfl, ha⟩ := Sem.eq_ok_of hr (a := Handler.found pc) (s' := s.setVm vm') (acts' := []) (by simp [hfind _ _ _ _])
  exact ⟨rfl, ha⟩
theorem at_catch {E : EE} {cc : ByteArray} {own : String} {nL : Nat} {R : Room} {b : Bool} {cells slots : Nat} {w : Wd} {pc : Nat} {lv : List (Nat × Value)} (C : Cx E cc own nL R) {hh : List (Nat × Nat × Nat × Nat)} (hex : (eC E).exceptionTable.toList.map tup4 = hh) (ks : List Nat) (ok : hOK own pc hh ks) {n h : Nat} (hn : n < 4) (hres : ctk hh ks n = some h) (k : ∀ a : Nat, AW E b cells slots w h lv [.ref a]) : AT E b cells slots w pc lv n := by
  intro H locs ls st a h1 h2 h3 h4 h5 T hT X
  obtain ⟨cell, z1, z2, z3⟩ := h5
  subst hex
  have hpl : (eE E).platform.magicAccessors = ({} : Platform).magicAccessors := by rw [X.admits.platform]
  have hvm : ((T.setTop (F0 (eM E) pc ls st)).pushFrame (.throwing a)).vm = T.vm := Stand.throwing_vm T _ a
  have hheap : ((T.setTop (F0 (eM E) pc ls st)).pushFrame (.throwing a)).heap = T.heap := Stand.throwing_heap T _ a
  obtain ⟨vm', hW', hgo⟩ := fh_go (e := eE E) C.2.2.2.2.1 (f := F0 (eM E) pc ls st) hpl C.2.2.2.1 hn z2 z3 (eC E).exceptionTable.toList ks ((T.setTop (F0 (eM E) pc ls st)).pushFrame (.throwing a)) ok (by rw [hvm]; exact X.warmed) (by rw [hheap, hT]; exact z1) hres
  have X' := X.noted hW'
  obtain ⟨t, a1, b1⟩ := k a H locs ls h1 h2 h3 h4 (T.setVm vm') hT X'
  refine ⟨t, ?_, b1⟩
  have hfind : ∀ (Q : Handler → Pre) (Z : CtlPost) (dt : Bool) (acts : List Action), wp (findHandler (F0 (eM E) pc ls st) a) Q Z (eE E) dt acts ((T.setTop (F0 (eM E) pc ls st)).pushFrame (.throwing a)) ↔ Q (.found h) dt acts (((T.setTop (F0 (eM E) pc ls st)).pushFrame (.throwing a)).setVm vm') := by
    intro Q Z dt acts
    rw [W.findHandler_eq (meth := eH E) (code := eC E) (by rw [hvm]; exact X.method') X.code]
    exact hgo Q Z dt acts
  obtain ⟨hgo', hw⟩ := X.here.throwing (g := F0 (eM E) pc ls st) a
  refine Steps.head hgo' hw ?_
  rw [stepThread_throwing (frames_entered X.here.top _), (st_catch hfind).1]
  obtain ⟨g₀, hg⟩ := Option.isSome_iff_exists.mp X.here.top
  obtain ⟨r, hr⟩ := State.topJava?_eq_some.mp hg
  have hr' : (T.setVm vm').frames = .java g₀ :: r := hr
  have e1 : ((((T.setTop (F0 (eM E) pc ls st)).pushFrame (.throwing a)).setVm vm').setFrames (.java { F0 (eM E) pc ls st with pc := h, stack := [.ref a] } :: T.frames.tail)) = (T.setVm vm').setTop (F0 (eM E) h ls [.ref a]) := by
    rw [State.setTop_of_frames _ hr', State.pushFrame, State.setTop_of_frames _ hr, State.setFrames_setFrames, hr]
    generalize (Frame.throwing a :: (T.setFrames (Frame.java (F0 (eM E) pc ls st) :: r)).frames) = X1
    show ((T.setVm vm').setFrames X1).setFrames _ = _
    rw [State.setFrames_setFrames]
    rfl
  rw [e1]
  exact a1
