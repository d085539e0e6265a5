/-! a method with a handler; the texts grow -/
theorem Met_ofX {l : Launch} {y : MethodName} {ws : List Cond} {rm : Room} {Pc : Array Value → State → Prop} {Qc : Array Value → State → Outcome → State → Prop} {Xc : String → Addr → State → State → Prop} {mc ms : Nat} {free : Addr → Prop} (h : vx_Met l y ws rm Pc Qc Xc mc ms free) (hx : ∀ E q a b, ¬ Xc E q a b) : Met l y ws rm Pc Qc mc ms free := by
  intro p e ha f1 f2 s m args below hf hS hP hK
  obtain ⟨n, o, a1, a2, a3, hq⟩ := h p e ha f1 f2 s m args below hf hS hP hK
  refine ⟨n, o, a1, a2, a3, ?_⟩
  rcases hq with hq | ⟨q, -, E, ce, L, hX, -⟩
  · exact hq
  · exact absurd hX (hx _ _ _ _)
theorem h_start {l : Launch} {y : MethodName} {cc : ByteArray} {maxL : Nat} {ret : Option FieldType} {hh : List (Nat × Nat × Nat × Nat)} {rm : Room} {G : MG} {X : State → Prop} {av : List Value} {M : Hp} {sz mc ms : Nat} {Qc : Array Value → State → Outcome → State → Prop} {free : Addr → Prop} (hy : plainName y.cls = true) (hl : (lg_sl av).length ≤ maxL)
    (body : ∀ (p : Program) (e : Env) (s : State) (m : MethodId) (below : List Frame) (meth : Method) (c : Code), XC p s m av.toArray meth c y cc maxL ret G X M sz → c.exceptionTable.toList = tableOf hh → ∀ ls : Array Slot, lv_has ls maxL (lv_args 0 av) → W p l e rm s m av.toArray below meth c s.heap [] 0 0 (vx_MQ below Qc (fun (_ : String) (_ : Addr) (_ _ : State) => False) av.toArray s mc ms free) (F0 m 0 ls [])) : Met l y (wsW_ y cc maxL ret hh) rm (xP G X av M sz) Qc mc ms free := by
  refine Met_ofX (Xc := fun (_ : String) (_ : Addr) (_ _ : State) => False) (vx_ofWH (cc := cc) (maxL := maxL) (ret := ret) (hh := hh) hy rfl ?_) (fun _ _ _ _ z => z)
  intro p e s m args below meth c s₁ B hml hv
  obtain ⟨rfl, hsz, hH, hK, hX⟩ := hv
  have hts := atoms_spec (ws := wsW_ y cc maxL ret hh) B.pre
  have hto := vx_table (x := y) B (hts _ List.mem_cons_self)
  have hts : ∀ w ∈ lw_all, w.before _ s = true := fun w h => hts w (List.mem_cons_of_mem _ h)
  rw [lg_entry_eq]
  exact body p e s m below meth c ⟨⟨B.exec, B.bytes, hml, findClass_of_methodNamed B.named, hts⟩, B.returns, B.notSynchronized, ⟨hH.self sz, va_S.rf⟩, hK, hX, hsz, (name_of_methodNamed B.named B.method).1⟩ hto _ (lv_entry av hl)
theorem rC_st {σ : St} {t : Nat} {v : Int} : rC (st σ 10 0 v) t = rC σ t ∧ rV (st σ 10 0 v) t = rV σ t ∧ rL (st σ 10 0 v) t = rL σ t := by
  have e7 : (st σ 10 0 v) 7 = σ 7 := st_n (by decide)
  have e9 : (st σ 10 0 v) 9 = σ 9 := st_n (by decide)
  have e11 : (st σ 10 0 v) 11 = σ 11 := st_n (by decide)
  have e12 : (st σ 10 0 v) 12 = σ 12 := st_n (by decide)
  have e13 : (st σ 10 0 v) 13 = σ 13 := st_n (by decide)
  have e1 : ∀ τ, rC τ t = up (cutS τ (τ 9 0) t 11) t 0 := fun τ => by
    unfold rC cutE
    rw [st_n (by decide), st_f, st_n (by decide)]
  have e2 : ∀ τ, rV τ t = up (cutS τ (τ 9 0) t 12) t 0 := fun τ => by
    unfold rV cutE
    rw [st_f, st_n (by decide), st_n (by decide)]
  have e3 : ∀ τ, rL τ t = up (cutS τ (τ 9 0) t 13) t (τ 9 0) := fun τ => by
    unfold rL cutE
    rw [st_n (by decide), st_n (by decide), st_f]
  refine ⟨?_, ?_, ?_⟩
  · rw [e1, e1, cutS_11, cutS_11, e7, e9, e11]
  · rw [e2, e2, cutS_12, cutS_12, e7, e9, e12]
  · rw [e3, e3, cutS_13, cutS_13, e7, e9, e13]
theorem TE_st {σ : St} {t : Nat} {v : Int} (h : TE σ t) : TE (st σ 10 0 v) t := by
  unfold TE at *
  rw [st_n (by decide), st_n (by decide)]
  exact h
section TXJ
variable {G : MG} {M : Hp} {a : Nat} {σ : St} {x : XGh} {ω : XCt}
theorem RX.textJ {y : Nat} {t : Int} {C V : Int → Int} {L_ : List Cl} (h : RX G M a σ x ω) (hI : KI (σ 2)) (hT : TT (σ 2)) (h40 : F40 σ) (h12 : σ 2 1756 ≠ 12) (t0 : 0 ≤ t) (ht : t ≤ 400) (hC : C t = 0) (hl : clsP C V t 402 0 = some L_) (hq : gq ω 0 12 (σ 2 1756) = some y) (hy : TextAt G 200 (gI x) y L_) : RX G (hs M (gb x 0 0) (oB 2 ((bF (σ 2) x 0).set 5 (.int (iI (σ 2 1756 + 1)))))) a (sa σ 2 (txK (σ 2) t C V)) x ω := by
  have b0 := hI.c
  unfold kCnt at b0
  have h0 : 0 ≤ σ 2 1756 ∧ σ 2 1756 < 12 := by omega
  have o : ∀ i, i < 1758 → i ≠ 1756 → txK (σ 2) t C V i = σ 2 i := fun i h1 h2 => txK_o h2 (by omega) (by omega) (by omega)
  have ec := txK_c (κ := σ 2) (C := C) (V := V) (t := t)
  have e2 : (sa σ 2 (txK (σ 2) t C V)) 2 = txK (σ 2) t C V := sa_s
  refine h.jump h40 ?_ (sa_n (by decide)) (sa_n (by decide)) (sa_n (by decide)) (sa_n (by decide)) (sa_n (by decide)) (sa_n (by decide)) (sa_n (by decide)) ?_ ?_
  · rw [e2]
    unfold bF
    rw [o 1750 (by decide) (by decide), o 1751 (by decide) (by decide), o 1752 (by decide) (by decide), o 1753 (by decide) (by decide), o 1754 (by decide) (by decide), o 1755 (by decide) (by decide), ec, o 1757 (by decide) (by decide)]
    rfl
  · rw [e2]
    refine RestB_gr h.ben.2.1 hI.c hT.x (fun i i0 i1 => o i (by omega) (by omega)) (fun i i0 i1 => o i (by omega) (by omega)) (fun i i0 i1 => o i (by omega) (by omega)) (fun i i0 i1 => o i (by omega) (by omega)) (fun i i0 i1 => o i (by omega) (by omega)) (fun i i0 i1 => txK_o (by omega) (by omega) (by omega) (by omega)) (fun i i0 i1 => txK_o (by omega) (by omega) (by omega) (by omega)) (fun i i0 i1 => txK_o (by omega) (by omega) (by omega) (by omega)) (fun k k0' k1' => ?_) (fun k k0' k1' => ?_) (fun k k0' k1' => ?_) (fun k k0' k1' => ?_)
    · rw [o 1752 (by decide) (by decide)] at k1'; omega
    · rw [o 1754 (by decide) (by decide)] at k1'; omega
    · rw [o 1755 (by decide) (by decide)] at k1'; omega
    · rw [ec] at k1'
      obtain rfl : k = σ 2 1756 := by omega
      refine ⟨y, hq, ?_⟩
      have e9 : tm (txK (σ 2) t C V) (σ 2 1756) = L_ := by
        unfold tm
        rw [txK_tmP h0 t0 ht hC hl]
        rfl
      rw [e9]
      exact hy
  · rw [e2]
    exact FlaskB_gr h.ben.2.2 (WK_of hI hT) (o _ (by omega) (by omega)) (fun i i0 i1 => o i (by omega) (by omega))
theorem rdS_9 {t : Nat} {u : PS} : (rdS σ t u) 9 0 = 0 ∧ (rdS σ t u) 10 0 = u.2.2 := by
  unfold rdS
  refine ⟨?_, ?_⟩
  · rw [psS_o (by decide) (by decide) (by decide), st_n (by decide), st_s]
  · rw [psS_o (by decide) (by decide) (by decide), st_s]
theorem rdS_11 {t : Nat} {u : PS} : (rdS σ t u) 11 = rC σ t ∧ (rdS σ t u) 12 = rV σ t := by
  unfold rdS rC rV
  refine ⟨?_, ?_⟩
  · rw [psS_o (by decide) (by decide) (by decide), st_n (by decide), st_n (by decide)]
  · rw [psS_o (by decide) (by decide) (by decide), st_n (by decide), st_n (by decide)]
/-- what text leaves of the row -/
theorem textW_2 {t : Nat} {u : PS} : (st (textW (rdS σ t u) t t) 2 1756 (σ 2 1756 + 1)) 2 = txK (σ 2) t (rC σ t) (rV σ t) := by
  have e2 : (rdS σ t u) 2 = σ 2 := rdS_o (by decide)
  rw [st_f]
  unfold textW txK
  rw [sa_s, e2, rdS_11.1, rdS_11.2]
theorem RX.textY {t : Nat} {u : PS} {v1 : Int} (hu : u.2.2 = -1) (h : RX G M a (goodS (st (sa (st σ 10 0 (-1)) 2 (txK (σ 2) t (rC σ t) (rV σ t))) 9 0 0)) x ω) : RX G M a (goodS (st (textW (rdS σ t u) t t) 2 1756 (σ 2 1756 + 1))) x ω := by
  have w : ∀ g, g ≤ 8 → g ≠ 0 → g ≠ 2 → (goodS (st (textW (rdS σ t u) t t) 2 1756 (σ 2 1756 + 1))) g = σ g := fun g hg h0 h2 => by
    unfold goodS textW
    rw [st_n h0, st_n h2, sa_n h2, rdS_o (by omega)]
  have v : ∀ g, g ≤ 8 → g ≠ 0 → g ≠ 2 → (goodS (st (sa (st σ 10 0 (-1)) 2 (txK (σ 2) t (rC σ t) (rV σ t))) 9 0 0)) g = σ g := fun g hg h0 h2 => by
    unfold goodS
    rw [st_n h0, st_n (by omega), sa_n h2, st_n (by omega)]
  refine h.sg ?_ (fun i _ _ => by rw [w 1 (by decide) (by decide) (by decide), v 1 (by decide) (by decide) (by decide)]) ?_ (by rw [w 3 (by decide) (by decide) (by decide), v 3 (by decide) (by decide) (by decide)]) (by rw [w 4 (by decide) (by decide) (by decide), v 4 (by decide) (by decide) (by decide)]) (fun i _ _ => by rw [w 7 (by decide) (by decide) (by decide), v 7 (by decide) (by decide) (by decide)]) ?_ ?_
  · unfold goodS
    rw [st_s, st_s]
  · have e1 : (goodS (st (textW (rdS σ t u) t t) 2 1756 (σ 2 1756 + 1))) 2 = txK (σ 2) t (rC σ t) (rV σ t) := by
      unfold goodS
      rw [st_n (by decide)]
      exact textW_2
    rw [e1]
    unfold goodS
    rw [st_n (by decide), st_n (by decide), sa_s]
  · unfold goodS textW
    rw [st_n (by decide), st_n (by decide), sa_n (by decide), rdS_9.1, st_n (by decide), st_s]
  · unfold goodS textW
    rw [st_n (by decide), st_n (by decide), sa_n (by decide), rdS_9.2, st_n (by decide), st_n (by decide), sa_n (by decide), st_s, hu]
theorem RX.textN {t : Nat} {u : PS} {v1 : Int} (h : RX G M a (refS (st (st (st σ 10 0 v1) 10 0 u.2.2) 9 0 0) (-6)) x ω) : RX G M a (refS (rdS σ t u) (-6)) x ω := by
  have e1 : (rdS σ t u) 1 = σ 1 := rdS_o (by decide)
  have e2 : (rdS σ t u) 2 = σ 2 := rdS_o (by decide)
  have e3 : (rdS σ t u) 3 = σ 3 := rdS_o (by decide)
  have e4 : (rdS σ t u) 4 = σ 4 := rdS_o (by decide)
  have e7 : (rdS σ t u) 7 = σ 7 := rdS_o (by decide)
  refine h.sg ?_ (fun i _ _ => ?_) ?_ ?_ ?_ (fun i _ _ => ?_) ?_ ?_
  · unfold refS
    rw [st_n (by decide), st_s, st_n (by decide), st_s]
  · unfold refS
    rw [st_f, st_f, st_n (by decide), st_n (by decide), st_n (by decide), st_n (by decide), st_n (by decide), e1]
  · unfold refS
    rw [st_n (by decide), st_n (by decide), st_n (by decide), st_n (by decide), st_n (by decide), st_n (by decide), st_n (by decide), e2]
  · unfold refS
    rw [st_n (by decide), st_n (by decide), st_n (by decide), st_n (by decide), st_n (by decide), st_n (by decide), st_n (by decide), e3]
  · unfold refS
    rw [st_n (by decide), st_n (by decide), st_n (by decide), st_n (by decide), st_n (by decide), st_n (by decide), st_n (by decide), e4]
  · unfold refS
    rw [st_n (by decide), st_n (by decide), st_n (by decide), st_n (by decide), st_n (by decide), st_n (by decide), st_n (by decide), e7]
  · unfold refS
    rw [st_n (by decide), st_n (by decide), st_n (by decide), st_n (by decide), rdS_9.1, st_s]
  · unfold refS
    rw [st_n (by decide), st_n (by decide), st_n (by decide), st_n (by decide), rdS_9.2, st_n (by decide), st_s]
end TXJ
