/-! a contract of a method of the JDK: no row of natives for it -/
section CTF
variable {l : Launch} {G : GG} {y : MethodName} {cc : ByteArray} {nL : Nat} {ret : Option FieldType} {d mc ms : Nat} {F : Addr → Prop} {av : List Value} {w : Wd} {post : Rs → Wd → Prop}
theorem CT.ofF (hy : plainFor y = true) (hn : (lg_sl av).length ≤ nL) {lv : List (Nat × Value)} (hlv : lv_args 0 av = lv)
    (body : ∀ E : EE, l = eL E → G = eG E → eF E = F → Cx E cc y.cls nL (rmd d mc ms) → Cr E ret post mc ms → hp (eG E) w (eS E).heap → (eC E).exceptionTable.toList = [] → (eH E).name = y.name → AW E true 0 0 w 0 lv []) :
    CT l G y (.code y cc nL ret) d mc ms F w av post := by
  intro hfl
  refine MetFree.of_bodySF (code := cc) (maxLocals := nL) (ret := ret) hy ?_ ?_
  · intro args s m h hn
    obtain ⟨meth, c, h1, h2, h3, h4, h5, h6, -, -⟩ := Cond.code_spec hn (atoms_spec (ws := [Cond.code y cc nL ret]) h _ List.mem_cons_self)
    exact ⟨meth, c, h1, h2, h3, h4, h5, h6⟩
  · intro p e s m args below meth c s₁ B hml hP _
    obtain ⟨rfl, hH, hK⟩ := hP
    have hh0 : s₁.heap = s.heap := by rw [B.state]; rfl
    obtain ⟨meth', c', h1, h2, -, -, -, -, hex, -⟩ := Cond.code_spec B.named (atoms_spec (ws := [Cond.code y cc nL ret]) B.pre _ List.mem_cons_self)
    have X := Stand.of_body B
    cases B.method.symm.trans h1
    cases X.code.symm.trans h2
    have hA := body (p, l, e, rmd d mc ms, s, m, av.toArray, below, meth, c, G, F, ZX G below post s mc ms F) rfl rfl rfl
      ⟨B.exec, B.bytes, hml, findClass_of_methodNamed B.named, hK, B.notSynchronized, hfl, rfl⟩ ⟨B.returns, fun t h => h⟩ hH (by simpa using hex) (name_of_methodNamed B.named B.method).1
    have hl := lv_entry av (n := nL) hn
    have hW := hA s.heap [] _ hH (fun q h => by cases h) (fun _ => rfl) (by rw [hlv] at hl; show lv_has _ c.maxLocals lv; rw [hml]; exact hl)
    rw [← lg_entry_eq] at hW
    obtain ⟨t, a1, o, b1, b2, b3, b4⟩ := hW s₁ hh0 X
    exact ⟨t, o, a1, b1, b2, b3, b4⟩
end CTF
