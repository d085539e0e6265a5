/-! all readers of the component, at every depth -/
theorem vps_0 {l : Launch} {G : MG} {K : (Nat → Nat) × (Nat → Nat)} {y : MethodName} {cc : ByteArray} {mL mode : Nat} : VPS l G K y cc mL mode 0 := fun M a σ tn P τ bo lo x u d_ p_ pf r sz _ _ _ _ _ _ _ _ _ e => by
  rw [rm] at e
  cases e
theorem vpt_0 {l : Launch} {G : MG} {K : (Nat → Nat) × (Nat → Nat)} {y : MethodName} {cc : ByteArray} {mL mode : Nat} : VPT l G K y cc mL mode 0 := fun M a σ tn P τ bo lo x u d_ p_ pf r sz _ _ _ _ _ _ _ _ _ e => by
  rw [rm] at e
  cases e
theorem vp_all (l : Launch) (G : MG) (K : (Nat → Nat) × (Nat → Nat)) : ∀ n : Nat, VPS l G K yX3_part cX3_part 2 0 n ∧ VPS l G K yX3_term cX3_term 3 1 n ∧ VPS l G K yX3_sum cX3_sum 3 2 n ∧ VPT l G K yX3_plain cX3_plain 6 3 n ∧ VPT l G K yX3_both cX3_both 2 4 n ∧ VPT l G K yX3_test cX3_test 2 5 n
  | 0 => ⟨vps_0, vps_0, vps_0, vpt_0, vpt_0, vpt_0⟩
  | n + 1 => by
    obtain ⟨h0, h1, h2, h3, h4, h5⟩ := vp_all l G K n
    exact ⟨fun M a σ tn P τ bo lo x u d_ p_ pf r sz z1 z2 z3 z4 z5 z6 z7 z8 z9 z10 => xp_X3_part l G M K n a σ tn P τ bo lo x u d_ p_ pf r sz h2 z1 z2 z3 z4 z5 z6 z7 z8 z9 z10,
      fun M a σ tn P τ bo lo x u d_ p_ pf r sz z1 z2 z3 z4 z5 z6 z7 z8 z9 z10 => xp_X3_term l G M K n a σ tn P τ bo lo x u d_ p_ pf r sz h0 z1 z2 z3 z4 z5 z6 z7 z8 z9 z10,
      fun M a σ tn P τ bo lo x u d_ p_ pf r sz z1 z2 z3 z4 z5 z6 z7 z8 z9 z10 => xp_X3_sum l G M K n a σ tn P τ bo lo x u d_ p_ pf r sz h1 z1 z2 z3 z4 z5 z6 z7 z8 z9 z10,
      fun M a σ tn P τ bo lo x u d_ p_ pf r sz z1 z2 z3 z4 z5 z6 z7 z8 z9 z10 => xp_X3_plain l G M K n a σ tn P τ bo lo x u d_ p_ pf r sz h5 h2 z1 z2 z3 z4 z5 z6 z7 z8 z9 z10,
      fun M a σ tn P τ bo lo x u d_ p_ pf r sz z1 z2 z3 z4 z5 z6 z7 z8 z9 z10 => xp_X3_both l G M K n a σ tn P τ bo lo x u d_ p_ pf r sz h3 z1 z2 z3 z4 z5 z6 z7 z8 z9 z10,
      fun M a σ tn P τ bo lo x u d_ p_ pf r sz z1 z2 z3 z4 z5 z6 z7 z8 z9 z10 => xp_X3_test l G M K n a σ tn P τ bo lo x u d_ p_ pf r sz h4 z1 z2 z3 z4 z5 z6 z7 z8 z9 z10⟩
theorem ClauseAt_up {G : MG} {I M : Hp} (h : ∀ a e, I a = some e → M a = some e) {n a : Nat} {c : Cl} (q : ClauseAt G n I a c) : ClauseAt G n M a c := by
  obtain ⟨so, te, g1, g2, g3, g4⟩ := q
  refine ⟨so, te, h _ _ g1, g2, ?_, ?_⟩
  · rcases g3 with g3 | ⟨q, f, e1, e2, e3⟩
    · exact Or.inl g3
    · exact Or.inr ⟨q, f, e1, e2, SumAt_up h e3⟩
  · rcases g4 with g4 | ⟨q, f, e1, e2, e3⟩
    · exact Or.inl g4
    · exact Or.inr ⟨q, f, e1, e2, TestAt_up h e3⟩
theorem clY_b {C V L : Int → Int} {n : Nat} {h : Int} {q : PS × Option Mean} {r : PS × Cl} (e : clY C V L n h q = some r) (hb : q.1.2.2 ≠ -1) : r.1 = q.1 := by
  unfold clY at e
  rw [if_neg hb] at e
  cases e
  rfl
