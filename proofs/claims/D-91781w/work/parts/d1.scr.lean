/-! queries with cells of their own: a clause asked, a case taken over -/
theorem t_holds (l : Launch) (G : MG) (M : Hp) (n : Nat) (cl : Cl) (ci nb : Nat) (t : Int) (g : Int → Int) (a c_ sz : Nat) (hT : ClauseAt G n M a cl) (hC : CaseN G M c_ ci nb t g) : Met l yX21_holds (ws_ yX21_holds cX21_holds 2 (some .boolean)) (rmD (n + 1 + 3)) (xP G XN [.ref a, .ref c_] M sz) (xQi G (DA M sz) (fun z M' => z = clH cl g ∧ M' = M)) 0 0 (DA M sz) :=
  Met_gxi (gpost := fun h z h' => hN h' = hN h ∧ z = clH cl g ∧ (z = 1 → ∃ so te, h' a = some (oB 18 [.int (iI (cl.1 - 1)), va_rf so, va_rf te, .long (lI (clS cl g))]))) (fun h hn => xm_X21_holds l G h n cl ci nb t g a c_ sz (hn ▸ hT) (hn ▸ hC)) (fun h z h' hn q => ⟨q.2.1, q.1.trans hn⟩)
section SCRX
variable {p : Program} {l : Launch} {e : Env} {R : Room} {s : State} {m : MethodId} {args : Array Value} {below : List Frame} {meth : Method} {c : Code} {H : Heap} {locs : List Loc} {cells slots : Nat} {Q : State → Prop}
variable {cc : ByteArray} {pc : Nat} {ls : Array Slot} {rest : List Value} {G : MG} {A : Nat → Prop} {a ci n index : Nat} {b t : Int} {M : Hp} {H0 : Heap} {own : String}
theorem x_num (hx : p.tables.exec = Jvm.exec) (hb : c.code = cc) (hts : ∀ w ∈ lw_all, w.before args s = true) (hown : s.vm.findClass own = some m.cls) (hK : va_K G.1 clA (tyA G.2.1) s) (hH : XV G A M H0 H locs) (he : M a = some (csE ci n b t)) (hci : ci = 3 ∨ ci = 9) (hq : (Cond.fieldLink own index "BrothFlasks$Case" "numbers" "[I") ∈ lw_all) (d : decode cc pc = .ok (.getfield index, 3))
    (kk : W p l e R s m args below meth c H locs cells slots Q (F0 m (pc + 3) ls (.ref n :: rest))) : W p l e R s m args below meth c H locs cells slots Q (F0 m pc ls (.ref a :: rest)) := by
  rcases hci with q | q <;> subst q
  · exact x_get (ci := 3) (fs := [.ref n, .int (iI b)]) hx hb hts in_X2 hown hK hH he rfl 0 (by decide) hq (fun _ h9 => h9) rfl (by decide) d kk
  · exact x_get (ci := 9) (fs := [.ref n, .int (iI b), .int (iI t)]) hx hb hts in_X10 hown hK hH he rfl 0 (by decide) hq (fun _ h9 => h9) rfl (by decide) d kk
end SCRX
section ALQ
variable {κ : Int → Int} {x : Int} {c : Nat}
theorem al_mono {n : Nat} (h : alN κ x c n = 0) : ∀ q : Nat, alN κ x c (n + q) = 0
  | 0 => h
  | q + 1 => by
    rw [show n + (q + 1) = n + q + 1 by omega, alN]
    split
    · rfl
    · exact al_mono h q
theorem al_hd (h : ¬ (c < (tm κ x).length ∧ hdN (tm κ x) c = 4)) : ∀ n : Nat, anN κ x n = 0 ∨ alN κ x c n = 0
  | 0 => Or.inl rfl
  | n + 1 => by
    rw [anN, alN]
    by_cases q : oL κ x n < 10
    · exact Or.inr (if_pos ⟨q, fun z => h z.1⟩)
    · rcases al_hd h n with z | z
      · exact Or.inl (by rw [if_neg q]; exact z)
      · exact Or.inr (by rw [if_neg (fun y => q y.1)]; exact z)
end ALQ
theorem caseL_k {κ : Int → Int} {a b k : Int} (hI : KI κ) (ha : 0 ≤ a ∧ a < κ 1754) (hb : 0 ≤ b ∧ b < κ 1754) : caseOK (up (loA κ a) k (loA κ b k)) := by
  have h1 : caseOK (loA κ a) := (hI.o a ha.1 ha.2).1
  have h2 : caseOK (loA κ b) := (hI.o b hb.1 hb.2).1
  have e : ∀ j, up (loA κ a) k (loA κ b k) j = loA κ a j ∨ up (loA κ a) k (loA κ b k) j = loA κ b j := fun j => by
    unfold up
    split
    · rename_i q; rw [q]; exact Or.inr rfl
    · exact Or.inl rfl
  unfold caseOK at *
  have f0 := e 0
  have f1 := e 1
  have f2 := e 2
  have f3 := e 3
  have f4 := e 4
  have f5 := e 5
  have f6 := e 6
  have f7 := e 7
  have f8 := e 8
  omega
