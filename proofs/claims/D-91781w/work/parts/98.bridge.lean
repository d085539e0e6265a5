/-! from the heap itself to the cleared heap -/
theorem Met_gxi {l : Launch} {y : MethodName} {ws : List Cond} {rm : Room} {G : MG} {X : State → Prop} {av : List Value} {M : Hp} {sz mc ms : Nat} {gpost : Hp → Int → Hp → Prop} {post : Int → Hp → Prop} (h1 : ∀ h, hN h = M → Met l y ws rm (gP G.1 clA (tyA G.2.1) X av h sz) (gQi G.1 clA (DA h sz) (gpost h)) mc ms (DA h sz)) (h2 : ∀ h z h', hN h = M → gpost h z h' → post z (hN h')) : Met l y ws rm (xP G X av M sz) (xQi G (DA M sz) post) mc ms (DA M sz) := by
  intro p e ha f1 f2 s m args below hf hS hP hK
  obtain ⟨hav, hsz, ⟨h, hn, hV⟩, hKK, hX⟩ := hP
  obtain ⟨n, o, a1, a2, a3, ⟨⟨r, u, e1, ⟨e2, e3⟩, e4⟩, e5⟩, e6⟩ := h1 h hn p e ha f1 f2 s m args below hf hS ⟨hav, hsz, hV, hKK, hX⟩ hK
  have h3 := h2 h u.1 u.2 hn e3
  subst hn
  rw [nD]
  exact ⟨n, o, a1, a2, a3, ⟨⟨r, (u.1, hN u.2), e1, ⟨e2, h3⟩, ⟨u.2, rfl, e4⟩⟩, e5⟩, e6⟩
