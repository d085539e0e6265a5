/-! the bench grows -/
def qS (ω : XCt) (k : Nat) (f : Int → Option Nat) : XCt := (gy ω, gz ω, fun b j => if b = 0 ∧ j = k then f else gq ω b j, gn ω, gg ω, gl ω, gv ω)
section RXG
variable {G : MG} {M : Hp} {a : Nat} {σ σ' : St} {x x' : XGh} {ω ω' : XCt}
theorem qS_s {k : Nat} {f : Int → Option Nat} : gq (qS ω k f) 0 k = f := if_pos ⟨rfl, rfl⟩
theorem qS_n {k b j : Nat} {f : Int → Option Nat} (h : ¬ (b = 0 ∧ j = k)) : gq (qS ω k f) b j = gq ω b j := if_neg h
theorem bcell_q {κ : Int → Int} {k : Nat} {f : Int → Option Nat} (hk : 8 ≤ k ∧ k ≤ 12) {e : va_E} (he : bcell G κ x (qS ω k f) 0 k = e) : ∀ j ∈ bKeys, upc (bcell G κ x ω 0) k e j = bcell G κ x (qS ω k f) 0 j := fun j hj => by
  unfold upc
  by_cases z : j = k
  · rw [if_pos z, z, he]
  · rw [if_neg z]
    have g : gq (qS ω k f) 0 j = gq ω 0 j := qS_n (fun h => z h.2)
    unfold bcell
    have t : j ∈ bKeys := hj
    simp only [bKeys, List.mem_cons, List.not_mem_nil, or_false] at t
    rcases t with t | t | t | t | t | t | t | t | t | t | t | t | t | t | t <;> subst t <;> first | rfl | (show _ = aQ _ _ (gq (qS ω k f) 0 _); rw [g]; rfl)
/-- a reference behind those that count -/
theorem RX.aq (h : RX G M a σ x ω) (h40 : F40 σ) {k : Nat} {i : Int} {y : Nat} (hk : (k = 8 ∧ σ 2 1752 ≤ i ∧ ∃ fs, gI x y = some (oB 5 fs)) ∨ (k = 9 ∧ σ 2 1753 ≤ i) ∨ (k = 10 ∧ σ 2 1754 ≤ i ∧ ∃ fs, gI x y = some (oB 9 fs)) ∨ (k = 11 ∧ σ 2 1755 ≤ i ∧ ∃ fs, gI x y = some (oB 3 fs)) ∨ (k = 12 ∧ σ 2 1756 ≤ i ∧ ∃ fs, gI x y = some (oB 19 fs))) {e : va_E} (he : bcell G (σ 2) x (qS ω k (upq (gq ω 0 k) i (some y))) 0 k = e) : RX G (hs M (gb x 0 k) e) a σ x (qS ω k (upq (gq ω 0 k) i (some y))) := by
  have hkm : k ∈ bKeys := by
    rcases hk with ⟨q, _⟩ | ⟨q, _⟩ | ⟨q, _⟩ | ⟨q, _⟩ | ⟨q, _⟩ <;> subst q <;> decide
  have hk2 : 8 ≤ k ∧ k ≤ 12 := by omega
  have hw := h.wb hkm
  obtain ⟨B1, B2, B3⟩ := h.ben
  obtain ⟨z0, z1, z2, z3, z4, z5⟩ := B2
  have hq : ∀ j (i' : Int), (j = k → i' ≠ i) → gq (qS ω k (upq (gq ω 0 k) i (some y))) 0 j i' = gq ω 0 j i' := fun j i' hh => by
    by_cases q : j = k
    · subst q
      rw [qS_s, upq_n (hh rfl)]
    · rw [qS_n (fun z => q z.2)]
  refine h.stQ (by omega) h40 (fun j hj => rfl) rfl rfl rfl rfl rfl rfl (fun b hb => ⟨rfl, ?_, rfl⟩) ⟨Gp_cg (Gp_up B1 hkm) (bcell_q hk2 he), ⟨z0, fun i' a b => ?_, fun i' a b => ?_, fun i' a b => ?_, fun i' a b => ?_, ?_⟩, fun f hf => ?_⟩
  · funext j
    exact qS_n (fun z => by omega)
  · rw [hq 8 i' (fun z => by omega)]; exact z1 i' a b
  · rw [hq 10 i' (fun z => by omega)]; exact z2 i' a b
  · rw [hq 11 i' (fun z => by omega)]; exact z3 i' a b
  · rw [hq 12 i' (fun z => by omega)]; exact z4 i' a b
  · obtain ⟨n1, n2, n3, n4⟩ := z5
    refine ⟨fun j u a b c => ?_, fun j u a b c => ?_, fun j u a b c => ?_, fun j u a b c => ?_⟩
    · by_cases q : k = 8 ∧ j = i
      · obtain ⟨q1, q2⟩ := q
        subst q1; subst q2
        rw [qS_s, upq_s] at c
        cases c
        rcases hk with ⟨-, -, g⟩ | ⟨g, -⟩ | ⟨g, -⟩ | ⟨g, -⟩ | ⟨g, -⟩ <;> first | exact g | omega
      · rw [hq 8 j (fun z => by omega)] at c; exact n1 j u a b c
    · by_cases q : k = 10 ∧ j = i
      · obtain ⟨q1, q2⟩ := q
        subst q1; subst q2
        rw [qS_s, upq_s] at c
        cases c
        rcases hk with ⟨g, -⟩ | ⟨g, -⟩ | ⟨-, -, g⟩ | ⟨g, -⟩ | ⟨g, -⟩ <;> first | exact g | omega
      · rw [hq 10 j (fun z => by omega)] at c; exact n2 j u a b c
    · by_cases q : k = 11 ∧ j = i
      · obtain ⟨q1, q2⟩ := q
        subst q1; subst q2
        rw [qS_s, upq_s] at c
        cases c
        rcases hk with ⟨g, -⟩ | ⟨g, -⟩ | ⟨g, -⟩ | ⟨-, -, g⟩ | ⟨g, -⟩ <;> first | exact g | omega
      · rw [hq 11 j (fun z => by omega)] at c; exact n3 j u a b c
    · by_cases q : k = 12 ∧ j = i
      · obtain ⟨q1, q2⟩ := q
        subst q1; subst q2
        rw [qS_s, upq_s] at c
        cases c
        rcases hk with ⟨g, -⟩ | ⟨g, -⟩ | ⟨g, -⟩ | ⟨g, -⟩ | ⟨-, -, g⟩ <;> first | exact g | omega
      · rw [hq 12 j (fun z => by omega)] at c; exact n4 j u a b c
  · obtain ⟨f1, f2, f3⟩ := B3 f hf
    exact FlaskB_out (ω := qS ω k (upq (gq ω 0 k) i (some y))) ⟨by rw [hq 9 f (fun z => by omega)]; exact f1, f2, f3⟩ rfl rfl (fun j hj => by omega)
/-- one more counts -/
theorem RX.jump (h : RX G M a σ x ω) (h40 : F40 σ) {L : List Value} (hL : bF (σ' 2) x 0 = L) (e0 : σ' 0 = σ 0) (e9 : σ' 9 = σ 9) (e10 : σ' 10 = σ 10) (h1 : σ' 1 = σ 1) (h7 : σ' 7 = σ 7) (h3 : σ' 3 = σ 3) (h4 : σ' 4 = σ 4) (hR : RestB G x ω 0 (σ' 2)) (hF : ∀ f : Nat, (f : Int) < σ' 2 1753 → FlaskB G M x ω 0 (σ' 2) f) : RX G (hs M (gb x 0 0) (oB 2 L)) a σ' x ω := by
  have hkm : 0 ∈ bKeys := by decide
  have hw := h.wb hkm
  subst hL
  refine h.stQ (by omega) h40 (fun j hj => ?_) h1 h7 h3 h4 rfl rfl (fun b hb => ⟨rfl, rfl, rfl⟩) ⟨Gp_cg (Gp_up h.ben.1 hkm) (fun j hj => ?_), hR, fun f hf => FlaskB_out (ω := ω) (hF f hf) rfl rfl (fun j hj => by omega)⟩
  · unfold xcell xF
    rw [e0, e9, e10]
  · unfold upc bcell
    by_cases z : j = 0
    · rw [if_pos z, if_pos z]
    · rw [if_neg z, if_neg z, if_neg z]
theorem bF_c {κ κ' : Int → Int} {b : Nat} (e : ∀ i, 1750 ≤ i → i < 1758 → κ' i = κ i) : bF κ' x b = bF κ x b := by
  unfold bF
  rw [e 1750 (by omega) (by omega), e 1751 (by omega) (by omega), e 1752 (by omega) (by omega), e 1753 (by omega) (by omega), e 1754 (by omega) (by omega), e 1755 (by omega) (by omega), e 1756 (by omega) (by omega), e 1757 (by omega) (by omega)]
theorem Zok_cg {κ κ' : Int → Int} {z : Nat → Int → Int} (h : Zok κ z) (A1 : Ag κ κ' 0 136) (A2 : Ag κ κ' 1732 1750) : Zok κ' z := by
  obtain ⟨z1, z2, z3, z4, z5⟩ := h
  refine ⟨fun i i0 i1 => ?_, fun i i0 i1 => ?_, fun i i0 i1 => ?_, fun i i0 i1 => ?_, fun i i0 i1 => ?_⟩
  · rw [A2 _ (by omega) (by omega), A2 _ (by omega) (by omega)]; exact z1 i i0 i1
  · rw [A1 _ (by omega) (by omega), A1 _ (by omega) (by omega), A1 _ (by omega) (by omega), A1 _ (by omega) (by omega)]; exact z2 i i0 i1
  · rw [A1 _ (by omega) (by omega)]; exact z3 i i0 i1
  · rw [A1 _ (by omega) (by omega)]; exact z4 i i0 i1
  · rw [A1 _ (by omega) (by omega)]; exact z5 i i0 i1
theorem KindR_cg {κ κ' : Int → Int} {N : Hp} {y : Nat} {k : Int} (h : KindR N y κ k) (A : Ag κ κ' (136 + 6 * k) (136 + 6 * k + 6)) : KindR N y κ' k := by
  unfold KindR at *
  rw [A _ (by omega) (by omega), A _ (by omega) (by omega), A _ (by omega) (by omega), A _ (by omega) (by omega), A _ (by omega) (by omega), A _ (by omega) (by omega)]
  exact h
theorem LookR_cg {κ κ' : Int → Int} {N : Hp} {y : Nat} {k : Int} (h : LookR G N y κ k) (A : Ag κ κ' (1224 + 10 * k) (1224 + 10 * k + 10)) : LookR G N y κ' k := by
  obtain ⟨n, f, g1, g2, g3⟩ := h
  exact ⟨n, f, by rw [A _ (by omega) (by omega)]; exact g1, g2, fun j j0 j1 => by rw [g3 j j0 j1]; exact (A _ (by omega) (by omega)).symm⟩
theorem TrialR_cg {κ κ' : Int → Int} {N : Hp} {y : Nat} {k : Int} (h : TrialR G N y κ k) (A : Ag κ κ' (1624 + 9 * k) (1624 + 9 * k + 9)) : TrialR G N y κ' k := by
  obtain ⟨n, f, g1, g2, g3⟩ := h
  exact ⟨n, f, g1, g2, fun j j0 j1 => by rw [g3 j j0 j1]; exact (A _ (by omega) (by omega)).symm⟩
theorem TextR_cg {κ κ' : Int → Int} {N : Hp} {y n : Nat} {k : Int} (h : TextAt G n N y (tm κ k)) (hs : 0 ≤ κ (1758 + k) ∧ κ (1758 + k) ≤ 400) (k0 : 0 ≤ k) (k1 : k < 12) (A1 : κ' (1758 + k) = κ (1758 + k)) (A2 : Ag κ κ' (1770 + 400 * k) (1770 + 400 * k + 400)) (A3 : Ag κ κ' (6570 + 400 * k) (6570 + 400 * k + 400)) : TextAt G n N y (tm κ' k) := by
  rw [tm_cg A1 (fun j j0 j1 => A2 _ (by omega) (by omega)) (fun j j0 j1 => A3 _ (by omega) (by omega))]
  exact h
/-- the bench's rest when the row agrees below the counts, and what is new stands -/
theorem RestB_gr {κ κ' : Int → Int} {b : Nat} (h : RestB G x ω b κ) (hk : kCnt κ) (hx : TX κ) (A1 : Ag κ κ' 0 136) (A2 : Ag κ κ' 1732 1750) (A3 : Ag κ κ' 136 (136 + 6 * κ 1752)) (A4 : Ag κ κ' 1224 (1224 + 10 * κ 1754)) (A5 : Ag κ κ' 1624 (1624 + 9 * κ 1755)) (A6 : Ag κ κ' 1758 (1758 + κ 1756)) (A7 : Ag κ κ' 1770 (1770 + 400 * κ 1756)) (A8 : Ag κ κ' 6570 (6570 + 400 * κ 1756))
    (n1 : ∀ k, κ 1752 ≤ k → k < κ' 1752 → ∃ y, gq ω b 8 k = some y ∧ KindR (gI x) y κ' k) (n2 : ∀ k, κ 1754 ≤ k → k < κ' 1754 → ∃ y, gq ω b 10 k = some y ∧ LookR G (gI x) y κ' k) (n3 : ∀ k, κ 1755 ≤ k → k < κ' 1755 → ∃ y, gq ω b 11 k = some y ∧ TrialR G (gI x) y κ' k) (n4 : ∀ k, κ 1756 ≤ k → k < κ' 1756 → ∃ y, gq ω b 12 k = some y ∧ TextAt G 200 (gI x) y (tm κ' k)) : RestB G x ω b κ' := by
  unfold kCnt at hk
  obtain ⟨z0, z1, z2, z3, z4, z5⟩ := h
  refine ⟨Zok_cg z0 A1 A2, fun k k0 k1 => ?_, fun k k0 k1 => ?_, fun k k0 k1 => ?_, fun k k0 k1 => ?_, z5⟩
  · rcases Int.lt_or_le k (κ 1752) with q | q
    · obtain ⟨y, e, g⟩ := z1 k k0 q
      exact ⟨y, e, KindR_cg g (fun i a b => A3 i (by omega) (by omega))⟩
    · exact n1 k q k1
  · rcases Int.lt_or_le k (κ 1754) with q | q
    · obtain ⟨y, e, g⟩ := z2 k k0 q
      exact ⟨y, e, LookR_cg g (fun i a b => A4 i (by omega) (by omega))⟩
    · exact n2 k q k1
  · rcases Int.lt_or_le k (κ 1755) with q | q
    · obtain ⟨y, e, g⟩ := z3 k k0 q
      exact ⟨y, e, TrialR_cg g (fun i a b => A5 i (by omega) (by omega))⟩
    · exact n3 k q k1
  · rcases Int.lt_or_le k (κ 1756) with q | q
    · obtain ⟨y, e, g⟩ := z4 k k0 q
      exact ⟨y, e, TextR_cg g (hx.1 k k0 (by omega)) k0 (by omega) (A6 _ (by omega) (by omega)) (fun i a b => A7 i (by omega) (by omega)) (fun i a b => A8 i (by omega) (by omega))⟩
    · exact n4 k q k1
theorem FlaskB_gr {κ κ' : Int → Int} {b : Nat} (h : ∀ f : Nat, (f : Int) < κ 1753 → FlaskB G M x ω b κ f) (hW : WK κ) (e : κ' 1753 = κ 1753) (A : Ag κ κ' 184 1224) : ∀ f : Nat, (f : Int) < κ' 1753 → FlaskB G M x ω b κ' f := fun f hf => by
  have hk := hW.1
  unfold kCnt at hk
  exact FlaskB_cg (h f (by omega)) rfl rfl (hW.2.2 f (by omega)) (fun i a b => A i (by omega) (by omega))
end RXG
section XRN
variable {p : Program} {l : Launch} {e : Env} {R : Room} {s : State} {m : MethodId} {args : Array Value} {below : List Frame} {meth : Method} {c : Code} {H : Heap} {locs : List Loc} {cells slots : Nat} {Q : State → Prop}
variable {cc : ByteArray} {pc : Nat} {ls : Array Slot} {rest st0 : List Value} {G : MG} {A : Nat → Prop} {M : Hp} {H0 : Heap}
variable {y : MethodName} {bytes : ByteArray} {maxL nL mc ms n index : Nat} {rm : Room} {Qc : Array Value → State → Outcome → State → Prop} {free : Addr → Prop} {own C host : String} {b : Addr} {As : List Value}
/-- a nest mate's constructor -/
theorem x_runIN (S : CallFix p m c cc nL s args lw_all own) (hH : XV G A M H0 H locs) (hK : va_K G.1 clA (tyA G.2.1) s) (hXN : XN s) (hsz : ls.size = nL)
    (hM : Met l y (ws_ y bytes maxL none) rm (xP G XN (.ref b :: As) M H.size) Qc mc ms free) (hG : GoodIn lw_all (ws_ y bytes maxL none)) (hini : (Cond.initialized y.cls) ∈ lw_all) (hl : (Cond.methodLinkNest own index y host) ∈ lw_tbl) (hin : (Cond.instanceMethod y) ∈ lw_all) (hd : y.cls = C ∧ y.cls ≠ "java/lang/invoke/MethodHandle" ∧ y.cls ≠ "java/lang/invoke/VarHandle" ∧ (parseMethodDescriptor y.desc).map (fun d => d.parameters.length) = some n) (hn : As.length = n) (hst : st0 = As.reverse ++ .ref b :: rest) (d : decode cc pc = .ok (.invokespecial index, 3)) (hy : y.name = "<init>" := by rfl) (hrc : rm.cells = mc := by rfl) (hrs : rm.slots = ms := by rfl)
    (hR : rm.frames + 1 ≤ R.frames ∧ 8 + (maxL + 11) + rm.locals ≤ R.locals := by exact ⟨Nat.le_of_ble_eq_true rfl, Nat.le_of_ble_eq_true rfl⟩) (hW : (rest.map fun v => v.category).sum ≤ 8 := by first | exact Nat.le_of_ble_eq_true rfl | decide) (hf : cells + mc ≤ R.cells ∧ slots + ms ≤ R.slots := by exact ⟨Nat.le_of_ble_eq_true rfl, Nat.le_of_ble_eq_true rfl⟩) : va_Run p l e R s m args below meth c H locs cells slots mc ms (F0 m pc ls st0) rest (Qc (Value.ref b :: As).toArray) free :=
  va_runIN (As := As) (rest := rest) S hM ⟨va_cnB n S.2.2.2.2 hG rfl hrc hrs (hXN.1 _ hl rfl) (S.2.2.2.2 _ hini) hd.2 hR, hy, S.2.2.2.2 _ hin⟩ ⟨xP_blind XN_b, xP_at hH hK (fun U _ hW => XN.warm hW hXN)⟩ rfl hn hsz hst (lv_room hW) d hf
end XRN
section XFF
variable {p : Program} {l : Launch} {e : Env} {R : Room} {s : State} {m : MethodId} {args : Array Value} {below : List Frame} {meth : Method} {c : Code} {H : Heap} {locs : List Loc} {cells slots : Nat} {Q : State → Prop}
variable {cc : ByteArray} {pc : Nat} {ls : Array Slot} {rest : List Value} {G : MG} {A : Nat → Prop} {a ci index : Nat} {M : Hp} {H0 : Heap} {own : String}
theorem x_putFlF (hx : p.tables.exec = Jvm.exec) (hb : c.code = cc) (hts : ∀ w ∈ lw_all, w.before args s = true) (hown : s.vm.findClass own = some m.cls) (hK : va_K G.1 clA (tyA G.2.1) s) (hH : XV G A M H0 H locs) {fs : List Value} (he : M a = some (oB ci fs)) (hci : ci = 6 ∨ ci = 7 ∨ ci = 8) (k : Nat) (hk : k < 19) {ref : String} (hlink : (Cond.fieldLink own index ref (TX7 k).2.1 (TX7 k).2.2.1) ∈ lw_all) (e7 : (TX7 k).1 = ref) (e8 : TX8 k = TX7 k) (e9 : TX9 k = TX7 k) (hfin : (TX7 k).2.2.2 = true) (hin2 : meth.name = "<init>") (hdecl : (TX7 k).1 = own) {ty : FieldType} {v : Value} (hd : parseFieldDescriptor (TX7 k).2.2.1 = some ty) (hn : narrow ty v = v) (hfit : fits ty v = true) (hl : k < fs.length) (d : decode cc pc = .ok (.putfield index, 3))
    (kk : ∀ (H1 : Heap) (locs1 : List Loc), XV G A (hs M a (oB ci (fs.set k v))) H0 H1 locs1 → W p l e R s m args below meth c H1 locs1 cells slots Q (F0 m (pc + 3) ls rest)) : W p l e R s m args below meth c H locs cells slots Q (F0 m pc ls (v :: .ref a :: rest)) := by
  rcases hci with q | q | q <;> subst q
  · exact x_putF hx hb hts in_X7 tyX7 tyX7_ok nmX7 hown hK hH he rfl k hk hlink (fun _ h9 => by rw [← e7]; exact h9) hfin hin2 hdecl hd hn hfit hl (show k ≠ 99 by omega) d kk
  · exact x_putF hx hb hts in_X8 tyX8 tyX8_ok nmX8 hown hK hH he rfl k hk (by rw [e8]; exact hlink) (fun _ h9 => by rw [e8] at h9 ⊢; rw [← e7]; exact h9) (by rw [e8]; exact hfin) hin2 (by rw [e8]; exact hdecl) (by rw [e8]; exact hd) hn hfit hl (show k ≠ 99 by omega) d kk
  · exact x_putF hx hb hts in_X9 tyX9 tyX9_ok nmX9 hown hK hH he rfl k hk (by rw [e9]; exact hlink) (fun _ h9 => by rw [e9] at h9 ⊢; rw [← e7]; exact h9) (by rw [e9]; exact hfin) hin2 (by rw [e9]; exact hdecl) (by rw [e9]; exact hd) hn hfit hl (show k ≠ 99 by omega) d kk
end XFF
