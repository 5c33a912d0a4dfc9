/-! contracts in more room; by hand -/
theorem hasRoom_le0 {s : State} {pl : Platform} {r r' : Room} (h1 : r.frames ≤ r'.frames) (h2 : r.locals ≤ r'.locals) (h3 : r.cells ≤ r'.cells) (h4 : r.slots ≤ r'.slots) (h : s.hasRoom pl r' = true) : s.hasRoom pl r = true := by
  have a1 := State.hasRoom_stack h
  have a2 := State.hasRoom_heap h
  have a3 := State.hasRoom_real h
  have a4 := State.hasRoom_plain h
  refine State.hasRoom_of a4 (by omega) (by omega) (by omega) (by omega) ?_ (by omega)
  simp only [State.hasRoom, Bool.and_eq_true] at h
  exact h.2
theorem hasRoom_le {s : State} {pl : Platform} {d mc ms d' mc' ms' : Nat} (hd : d ≤ d') (hc : mc ≤ mc') (hs : ms ≤ ms') (h : s.hasRoom pl (rmd d' mc' ms') = true) : s.hasRoom pl (rmd d mc ms) = true :=
  hasRoom_le0 (r := rmd d mc ms) (r' := rmd d' mc' ms') hd (Nat.mul_le_mul_left 37 hd) hc hs h
theorem CT.weak {l : Launch} {G : GG} {y : MethodName} {wc : Cond} {d mc ms d' mc' ms' : Nat} {F F' : Addr → Prop} {av : List Value} {w : Wd} {post post' : Rs → Wd → Prop} (h : CT l G y wc d mc ms F w av post) (hd : d ≤ d') (hc : mc ≤ mc') (hs : ms ≤ ms') (hF : ∀ a, F a → F' a) (hp : ∀ r w', post r w' → post' r w') : CT l G y wc d' mc' ms' F' w av post' := by
  intro hfl p e ha hc9 hk s m args below hf happ hP hK
  have happ' : (headSpec [wc] (rmd d mc ms)).appliesLoose y e.platform s = true := by
    rw [Spec.appliesLoose_iff hf] at happ ⊢
    obtain ⟨h1, h2, h3, h4, h5, h6, h7, h8⟩ := happ
    exact ⟨h1, h2, h3, h4, h5, h6, hasRoom_le hd hc hs h7, h8⟩
  obtain ⟨n, o, h1, h2, h3, ⟨w', h4, h5⟩, h6, L, h7, h8⟩ := h hfl p e ha hc9 hk s m args below hf happ' hP hK
  refine ⟨n, o, h1, h2, h3, ⟨w', h4, ?_⟩, h6, L, h7.mono hc hs, fun q hq => hF _ (h8 q hq)⟩
  rcases h5 with ⟨v, e1, e2⟩ | ⟨n, a, e1, e2, e3⟩
  · exact Or.inl ⟨v, e1, hp _ _ e2⟩
  · exact Or.inr ⟨n, a, e1, hp _ _ e2, e3⟩
theorem F_no {F : Addr → Prop} : ∀ a, Fno a → F a := fun _ h => h.elim
theorem F_id {F : Addr → Prop} : ∀ a, F a → F a := fun _ h => h
