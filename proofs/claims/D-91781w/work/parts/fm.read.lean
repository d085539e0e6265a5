theorem RD.rx2 : True := trivial
/-- the clauses that lie in an array -/
def ArAt (G : MG) (I : Hp) (f : Int → Option Nat) (L : List Cl) : Prop := ∀ j : Nat, j < L.length → ∃ q, f j = some q ∧ ClauseAt G 200 I q (L.getD j cl0)
theorem ArAt_up {G : MG} {I I' : Hp} {f : Int → Option Nat} {L : List Cl} (h : ∀ a e, I a = some e → I' a = some e) (hp : ArAt G I f L) : ArAt G I' f L := fun j hj => by
  obtain ⟨q, g1, g2⟩ := hp j hj
  exact ⟨q, g1, ClauseAt_up h g2⟩
theorem ArAt_push {G : MG} {I : Hp} {f : Int → Option Nat} {L : List Cl} {k : Int} {q : Nat} {c : Cl} (hp : ArAt G I f L) (hk : k = L.length) (hc : ClauseAt G 200 I q c) : ArAt G I (upq f k (some q)) (L ++ [c]) := fun j hj => by
  rw [List.length_append] at hj
  have hj : j < L.length + 1 := hj
  rcases Nat.lt_or_ge j L.length with z | z
  · obtain ⟨y, g1, g2⟩ := hp j z
    refine ⟨y, by rw [upq_n (by omega)]; exact g1, ?_⟩
    rw [List.getD_eq_getElem?_getD, List.getElem?_append_left z, ← List.getD_eq_getElem?_getD]
    exact g2
  · refine ⟨q, by rw [show (j : Int) = k by omega]; exact upq_s, ?_⟩
    rw [List.getD_eq_getElem?_getD, List.getElem?_append_right z, show j - L.length = 0 by omega]
    exact hc
theorem ArAt_cl {G : MG} {I M : Hp} {f : Int → Option Nat} {L : List Cl} (hp : ArAt G I f L) (hI : ∀ a e, I a = some e → M a = some e) : ∀ i : Int, 0 ≤ i → i < (L.length : Int) → ∀ y, f i = some y → ∃ (ci : Nat) (fs : List Value) (r : vw_C), M y = some (oB ci fs) ∧ clA[ci]? = some r ∧ inRow r.1 "BrothFlasks$Clause" := fun i i0 i1 y hy => by
  obtain ⟨q, g1, so, te, g2, -⟩ := hp i.toNat (by omega)
  rw [Int.toNat_of_nonneg i0, hy] at g1
  cases g1
  exact ⟨18, _, _, hI _ _ g2, rfl, Or.inl rfl⟩
theorem text_at {G : MG} {I : Hp} {f : Int → Option Nat} {L : List Cl} {k : Int} {q ar : Nat} (hp : ArAt G I f L) (hk : k = L.length) (hk12 : k ≤ 12) (hq : I q = some (oB 19 [.ref ar])) (har : I ar = some (aQ (G.2.1 11) k.toNat (cpZ f (fun _ => none) 0 0 k))) : TextAt G 200 I q L := by
  refine ⟨ar, k.toNat, _, hq, har, by omega, by omega, fun i hi => ?_⟩
  obtain ⟨y, g1, g2⟩ := hp i (by omega)
  refine ⟨y, ?_, g2⟩
  unfold cpZ
  rw [if_pos (by omega), show (0 : Int) + ((i : Int) - 0) = i by omega]
  exact g1
set_option maxHeartbeats 2000000 in
theorem xp_X3_read (l : Launch) (G : MG) (M : Hp) (K : (Nat → Nat) × (Nat → Nat)) (a : Nat) (σ : St) (tn : Nat) (P : Nat → Nat) (τ : Int → Int) (bo : Nat) (lo : Int) (x : XGh) (F : Int) (T : Int) (l_ : Int) (d_ : Int) (p_ : Int) (pf : Int → Option Nat) (r : PS × List Cl) (sz : Nat) (hTE : TE σ tn) (hD : RD G M a σ P τ bo lo x F T l_ d_ p_ pf) (hKG : ∀ i, i < 21 → G.2.2 (100 + i) = K.1 i) (he : rmAll (rC σ tn) (rV σ tn) (rL σ tn) 60 tn = some r) : vx_Met l yX3_read (ws_ yX3_read cX3_read 4 (some (.object "BrothFlasks$Text"))) (rmX 85 1700 7000) (xP G (XRd K M) [.ref (P 7)] M sz) (xQq G (DA M sz) (fun r' M' => r.1.2.2 = -1 ∧ ∃ (x' : XGh) (q : Nat) (F' T' l' d' p' : Int) (pf' : Int → Option Nat), r' = some q ∧ RD G M' a σ P τ bo lo x' F' T' l' d' p' pf' ∧ Ext M M' x x' ∧ TextAt G 200 (gI x') q r.2)) (rXc G (DA M sz) (fun pl M' => PXp G a σ P r.1 pl M')) 1700 7000 (DA M sz) := by
  refine r_start (by decide) (Nat.le_of_ble_eq_true rfl) ?_
  intro p e s m below meth c ⟨S, hr, hlk, hH, hK, hX, hsz, hnm⟩ hto ls hl
  have hXN : XN s := hX.1
  subst hsz
  obtain ⟨hx, hb, hml, hown, hts⟩ := S
  have S : CallFix p m c _ _ s _ lw_all RX3 := ⟨hx, hb, hml, hown, hts⟩
  have hA : ∀ q, s.heap.size ≤ q → DA M s.heap.size q := fun q hq => Or.inr hq
  have hl : lv_has ls 4 [(0, .ref (P 7))] := hl
  have hTK := hTE.tk
  have hB8 := hTE.2.2
  have hn4 := hTE.2.1
  have htn := hTE.1.1
  unfold rmAll at he
  obtain ⟨r1, e1, er0⟩ := Option.map_eq_some_iff.mp he
  obtain ⟨c0, e2, e3⟩ := Option.bind_eq_some_iff.mp e1
  have L32 : ∀ (q : Nat) (N1 : Hp) (x1 : XGh) (u1 : PS) (pf1 : Int → Option Nat) (k : Int) (lsx : List Cl) (fA : Int → Option Nat) (s1 : Nat), (hD1 : RD G N1 a σ P τ bo lo x1 (rL σ tn u1.1) (rE σ tn u1.1) u1.2.1 0 0 pf1) → (hE1 : Ext M N1 x x1) → (hB1 : BS tn u1) → (hf1 : u1.2.2 = -1) → (hl1 : (if k = 12 then some (fauP (rL σ tn) u1, lsx) else (clZ (rC σ tn) (rV σ tn) (rL σ tn) 60 u1).bind (fun r => alX (rC σ tn) (rV σ tn) (rL σ tn) 60 q (k + 1) r.1 (lsx ++ [r.2]))) = some r1) → (hk1 : k = lsx.length) → (hk2 : k ≤ 12) → (hAr : ArAt G (gI x1) fA lsx) → (hs1 : N1 s1 = some (aQ (G.2.1 11) 12 fA)) → (hw1 : gw x1 s1 = 1) → (hno1 : ∀ u, M s1 = some u → gw x s1 = 1 → False) → (hq : (tn : Int) - u1.1 < q) → ∀ (H : Heap) (locs : List Loc) (ls : Array Slot), XV G (DA M s.heap.size) N1 s.heap H locs → lv_has ls 4 [(0, .ref (P 7)), (1, .ref s1), (2, .int (iI k))] → W p l e (rmX 85 1700 7000) s m ([.ref (P 7)] : List Value).toArray below meth c H locs (1 + (4 * u1.1).toNat) (12 + (16 * u1.1).toNat) (vx_MQ below (xQq G (DA M s.heap.size) (fun r' M' => r.1.2.2 = -1 ∧ ∃ (x' : XGh) (q : Nat) (F' T' l' d' p' : Int) (pf' : Int → Option Nat), r' = some q ∧ RD G M' a σ P τ bo lo x' F' T' l' d' p' pf' ∧ Ext M M' x x' ∧ TextAt G 200 (gI x') q r.2)) (rXc G (DA M s.heap.size) (fun pl M' => PXp G a σ P r.1 pl M')) ([.ref (P 7)] : List Value).toArray s 1700 7000 (DA M s.heap.size)) (F0 m 32 ls []) := by
    intro q
    induction q with
    | zero => intro N1 x1 u1 pf1 k lsx fA s1 hD1 hE1 hB1 hf1 hl1 hk1 hk2 hAr hs1 hw1 hno1 hq; have z9 := hB1; unfold BS at z9; exfalso; omega
    | succ q ih_32 =>
      intro N1 x1 u1 pf1 k lsx fA s1 hD1 hE1 hB1 hf1 hl1 hk1 hk2 hAr hs1 hw1 hno1 hq H locs ls hH hl
      have b_u1 := hB1
      unfold BS at b_u1
      have hr_u1 := tok_r hTE b_u1.1.1 b_u1.1.2
      have hL_u1 : rL σ tn u1.1 ≠ -1 := by omega
      have hC_u1 := (hTK.2.2 u1.1 b_u1.1.1 b_u1.1.2).1.1
      refine lv_aload_n hx hb dX3_read_32 rfl (lv_at hl 0 rfl) ?_
      refine lv_iload_n hx hb dX3_read_33 rfl (lv_at hl 2 rfl) ?_
      refine n_bipush (z := 12) hx hb dX3_read_34 (by decide) ?_
      refine n_icmp_ge (tgt := 43) hx hb (r32 (by omega)) (r32 (by omega)) dX3_read_36 (by decide) (fun c_36 => ?_) (fun c_36 => ?_)
      · -- 36T
        have ek12 : k = 12 := by omega
        refine n_iconst hx hb dX3_read_43 ?_
        rw [if_pos ek12] at hl1
        have er1 := Option.some.inj hl1
        have hr9 : r.1 = fauP (rL σ tn) u1 := by rw [← er1, if_neg (fun z => fauP_bad hTK hB1 z.1)] at er0; rw [← er0]
        have hbad : r.1.2.2 = rL σ tn u1.1 := by rw [hr9]; exact (fau_3 hf1).2.2
        have hbd9 := bd_b (s := r.1) (by rw [hbad]; exact hL_u1)
        refine r_callv (r_runV (As := [.int (iI 0)]) (rest := []) S hH hK (hX.at hH) XRd_b hl.1 hD1.c rfl (xm_X3_mustN l G N1 K a σ P τ bo lo x1 (rL σ tn u1.1) (rE σ tn u1.1) u1.2.1 0 0 pf1 0 _ hD1 (by omega)) (lw_V q833 q835 qs14 q108 q836) kd_X3_must rfl rfl dX3_read_44 (hR := ⟨by dsimp only [rmX, rmD]; omega, by dsimp only [rmX, rmD]; omega⟩) (hf := ⟨by dsimp only [rmX]; omega, by dsimp only [rmX]; omega⟩)) hH hA (fun q9_44 pl_44 M9_44 H locs hT_44 => r_out hto hlk hT_44 (leaf_px hbad hL_u1 (hT_44.1)) (by omega) (by omega)) (fun M44_ H locs q_44 hH hz_44 => ?_)
        exact q_44.elim
      · -- 36F
        rw [if_neg (show ¬ k = 12 by omega)] at hl1
        obtain ⟨c1, e4, e5⟩ := Option.bind_eq_some_iff.mp hl1
        have hg := clZ_go hTK hB1 hf1 e4
        have hm2 := hg.2.1
        have hga := alX_go hTK _ _ _ _ _ hg.1 e5
        refine n_iconst hx hb dX3_read_39 ?_
        refine lv_goto (tgt := 44) hx hb dX3_read_40 (by decide) ?_
        refine x_callv (x_runV (As := [.int (iI 1)]) (rest := []) S hH hK (hX.at hH) XRd_b hl.1 hD1.c rfl (xm_X3_mustY l G N1 K a σ P τ bo lo x1 (rL σ tn u1.1) (rE σ tn u1.1) u1.2.1 0 0 pf1 1 _ hD1 (by omega)) (lw_V q833 q835 qs14 q108 q836) kd_X3_must rfl rfl dX3_read_44 (hR := ⟨by dsimp only [rmX, rmD]; omega, by dsimp only [rmX, rmD]; omega⟩) (hf := ⟨by dsimp only [rmX]; omega, by dsimp only [rmX]; omega⟩)) hH hA (fun M44_ H locs q_44 hH hz_44 => ?_)
        have hH := XV_to hH q_44
        refine lv_aload_n hx hb dX3_read_47 rfl (lv_at hl 1 rfl) ?_
        refine lv_iload_n hx hb dX3_read_48 rfl (lv_at hl 2 rfl) ?_
        refine lv_aload_n hx hb dX3_read_49 rfl (lv_at hl 0 rfl) ?_
        have hbx : c1.1.2.2 ≠ -1 → r.1 = c1.1 := fun z => by
          have z9 := alX_b z e5
          rw [z9, if_neg (fun y => z y.1)] at er0
          rw [← er0]
        have hbdc := bd_le c1.1
        have hgc := hg.1
        unfold BS at hgc
        refine r_callq (r_runV (As := []) (rest := [.int (iI k), .ref s1]) S hH hK (hX.at hH) XRd_b hl.1 hD1.c rfl (xp_X3_clause l G N1 K a σ tn P τ bo lo x1 u1 pf1 c1 _ hTE hD1 hB1 hf1 hKG e4) (lw_V q900 q902 qs16 q108 q903) kd_X3_clause rfl rfl dX3_read_50 (hR := ⟨by dsimp only [rmX, rmD]; omega, by dsimp only [rmX, rmD]; omega⟩) (hf := ⟨by dsimp only [rmX]; omega, by dsimp only [rmX]; omega⟩)) hH hA (fun q9_50 pl_50 M9_50 H locs hT_50 => r_out hto hlk hT_50 (sub_px hbx hT_50.1) (by omega) (by omega)) (fun r9_50 M50_ H locs q_50 hH hz_50 => ?_)
        obtain ⟨f1, x1, q1, pf1, er1, hD1, hp1, hX1, hT1⟩ := q_50
        subst er1
        have hb1 := bd_f f1
        have hE1 := hE1.tr hX1
        obtain ⟨f1_s1, hw1_s1⟩ := hX1.2.2 _ _ hs1 hw1
        have hT1_ar := ArAt_up hX1.2.1 hAr
        have hBB1 := hg.1
        have b_c1_1 := hBB1
        unfold BS at b_c1_1
        have hr_c1_1 := tok_r hTE b_c1_1.1.1 b_c1_1.1.2
        have hL_c1_1 : rL σ tn c1.1.1 ≠ -1 := by omega
        have hC_c1_1 := (hTK.2.2 c1.1.1 b_c1_1.1.1 b_c1_1.1.2).1.1
        have h50_c1_1 := b_c1_1.2.2.2 f1
        have hlf := hg.2.2 (by assumption)
        obtain ⟨so9, te9, hc9, -⟩ := id hT1
        have hm9 := hD1.I hc9
        refine x_aast (E := "BrothFlasks$Clause") hx hb hK hXN hH f1_s1 rfl hm9 rfl (Or.inl rfl) (by omega) (by omega) (Nat.le_of_ble_eq_true rfl) dX3_read_53 (fun H locs hH => ?_)
        obtain ⟨M2, e_M2⟩ : ∃ M2, M2 = hs M50_ s1 (aQ (G.2.1 11) 12 (upq fA k (some q1))) := ⟨_, rfl⟩
        have hH := XV_to hH e_M2.symm
        have f2 : M2 s1 = some (aQ (G.2.1 11) 12 (upq fA k (some q1))) := by rw [e_M2]; exact hs_s
        obtain ⟨hD3, hE3, hO3⟩ := RD.tmp (e := aQ (G.2.1 11) 12 (upq fA k (some q1))) hD1 hE1 hw1_s1 hno1
        rw [← e_M2] at hD3 hE3 hO3
        have hAn4 := ArAt_push hT1_ar hk1 hT1
        have hlen2 : k + 1 = ((lsx ++ [c1.2]).length : Int) := by rw [List.length_append]; show k + 1 = ((lsx.length + 1 : Nat) : Int); omega
        refine n_iinc hx hb dX3_read_54 hl (k := 2) rfl (Nat.le_of_ble_eq_true rfl) (lv' := [(2, .int (iI (k + 1))), (0, .ref (P 7)), (1, .ref s1)]) rfl (fun ls hl => ?_)
        refine lv_aload_n hx hb dX3_read_57 rfl (lv_at hl 1 rfl) ?_
        refine va_ldcS (tx := ";") (q := K.1 21) hx hb hown (hX.2.1 21 (by decide)) dX3_read_58 ?_
        by_cases a_60 : rC σ tn c1.1.1 = 159
        · -- 60Y
          rw [alX, if_pos ⟨by assumption, a_60⟩] at e5
          refine x_calli (x_runV (As := [.ref (K.1 21)]) (rest := []) S hH hK (hX.at hH) XRd_b hl.1 hD3.c rfl (xm_X3_acceptY l G M2 K a σ P τ bo lo x1 (rL σ tn c1.1.1) (rE σ tn c1.1.1) c1.1.2.1 0 0 pf1 21 _ hD3 (by decide) (tok_y hTE b_c1_1.1.1 b_c1_1.1.2 (k := 21) (by decide) (z := 159) rfl a_60) (by omega) (by omega) (by omega) hB8 (by omega) (by omega) (by omega)) (lw_V q982 q984 qs24 q108 q985) kd_X3_accept rfl rfl dX3_read_60 (hR := ⟨by dsimp only [rmX, rmD]; omega, by dsimp only [rmX, rmD]; omega⟩) (hf := ⟨by dsimp only [rmX]; omega, by dsimp only [rmX]; omega⟩)) hH hA (fun z60 M60_ H locs q_60 hH hz_60 => ?_)
          obtain ⟨ez_60, hD5, hX5⟩ := q_60
          subst ez_60
          have hE5 := hE3.tr hX5
          obtain ⟨f5_s1, hw5_s1⟩ := hX5.2.2 _ _ f2 hw1_s1
          obtain ⟨v6, ev6⟩ : ∃ v, v = advP c1.1 := ⟨_, rfl⟩
          have ew6 : v6 = (c1.1.1 + 1, c1.1.2.1, c1.1.2.2) := ev6
          have e1v6 : v6.1 = c1.1.1 + 1 := by rw [ew6]
          have e2v6 : v6.2.1 = c1.1.2.1 := by rw [ew6]
          have fv6 : v6.2.2 = -1 := by rw [ew6]; exact f1
          have hBv6 : BS tn v6 := by rw [ev6]; exact BS_adv hTK hBB1 (by omega)
          have b_v6 := hBv6
          unfold BS at b_v6
          have hr_v6 := tok_r hTE b_v6.1.1 b_v6.1.2
          have hL_v6 : rL σ tn v6.1 ≠ -1 := by omega
          have hC_v6 := (hTK.2.2 v6.1 b_v6.1.1 b_v6.1.2).1.1
          have en6 := tok_nx hTE b_c1_1.1.1 (tok_z hTE b_c1_1.1.1 b_c1_1.1.2 (by omega))
          have hDv6 := hD5
          rw [en6.1, en6.2, ← e1v6, ← e2v6] at hDv6
          refine n_if_ne (tgt := 32) hx hb (r32 (by omega)) dX3_read_63 (by decide) (fun _ => ?_) (fun h => absurd h (by decide))
          have hl : lv_has ls 4 [(0, .ref (P 7)), (1, .ref s1), (2, .int (iI (k + 1)))] := lv_sub hl [1, 2, 0] rfl
          refine W.widen (k := 1 + (4 * v6.1).toNat) (n := 12 + (16 * v6.1).toNat) (by omega) (by omega) ?_
          refine ih_32 M60_ x1 v6 pf1 (k + 1) (lsx ++ [c1.2]) (upq fA k (some q1)) s1 ?_ ?_ ?_ ?_ ?_ ?_ ?_ ?_ ?_ ?_ ?_ ?_ _ _ _ hH hl
          · exact hDv6
          · exact hE5
          · exact hBv6
          · exact fv6
          · rw [← ev6] at e5
            exact e5
          · exact hlen2
          · omega
          · exact hAn4
          · exact f5_s1
          · exact hw5_s1
          · exact hno1
          · omega
        · -- 60N
          rw [alX, if_neg (fun z => a_60 z.2)] at e5
          have er1 := Option.some.inj e5
          refine x_calliF (x_runV (As := [.ref (K.1 21)]) (rest := []) S hH hK (hX.at hH) XRd_b hl.1 hD3.c rfl (xm_X3_acceptN l G M2 K a σ P τ bo lo x1 (rL σ tn c1.1.1) (rE σ tn c1.1.1) c1.1.2.1 0 0 pf1 21 _ hD3 (by decide) (tok_n hTE b_c1_1.1.1 b_c1_1.1.2 (k := 21) (by decide) (z := 159) rfl a_60) (by omega) (by omega) (by omega) hB8) (lw_V q982 q984 qs24 q108 q985) kd_X3_accept rfl rfl dX3_read_60 (hR := ⟨by dsimp only [rmX, rmD]; omega, by dsimp only [rmX, rmD]; omega⟩) (hf := ⟨by dsimp only [rmX]; omega, by dsimp only [rmX]; omega⟩)) hH hA (fun H locs hH => ?_)
          refine n_if_ne (tgt := 32) hx hb (r32 (by omega)) dX3_read_63 (by decide) (fun h => absurd h (by decide)) (fun _ => ?_)
          refine lv_aload_n hx hb dX3_read_66 rfl (lv_at hl 1 rfl) ?_
          refine lv_aload_n hx hb dX3_read_67 rfl (lv_at hl 1 rfl) ?_
          refine x_get hx hb hts in_X3 hown hK hH hD3.c rfl 0 (by decide) q307 (fun _ h9 => h9) rfl (by decide) dX3_read_68 ?_
          refine lv_aload_n hx hb dX3_read_71 rfl (lv_at hl 1 rfl) ?_
          refine x_get hx hb hts in_X3 hown hK hH hD3.c rfl 9 (by decide) q316 (fun _ h9 => h9) rfl (by decide) dX3_read_72 ?_
          refine x_getN hx hb hts in_X0 hown hK hH hD3.o rfl 6 (by decide) hXN q346 (fun _ h9 => h9) rfl (by decide) dX3_read_75 ?_
          refine n_icmp_ne (tgt := 85) hx hb (r32 (by omega)) (r32 (by omega)) dX3_read_78 (by decide) (fun c_78 => ?_) (fun c_78 => ?_)
          · -- 78T
            have hlt : c1.1.1 < tn := by
              rcases Int.lt_or_le c1.1.1 tn with z | z
              · exact z
              · exfalso
                have z9 := tok_t hTE
                rw [show ((tn : Nat) : Int) = c1.1.1 by omega] at z9
                exact c_78 z9.1
            refine n_iconst hx hb dX3_read_85 ?_
            have hr9 : r.1 = fauP (rL σ tn) c1.1 := by rw [← er1, if_pos ⟨by assumption, hlt⟩] at er0; rw [← er0]
            have hbad : r.1.2.2 = rL σ tn c1.1.1 := by rw [hr9]; exact (fau_3 (by assumption)).2.2
            have hr11 : r.1.1 = c1.1.1 := by rw [hr9]; exact (fau_3 (by assumption)).1
            have hbd9 := bd_b (s := r.1) (by rw [hbad]; exact hL_c1_1)
            refine r_callv (r_runV (As := [.int (iI 0)]) (rest := []) S hH hK (hX.at hH) XRd_b hl.1 hD3.c rfl (xm_X3_mustN l G M2 K a σ P τ bo lo x1 (rL σ tn c1.1.1) (rE σ tn c1.1.1) c1.1.2.1 0 0 pf1 0 _ hD3 (by omega)) (lw_V q833 q835 qs14 q108 q836) kd_X3_must rfl rfl dX3_read_86 (hR := ⟨by dsimp only [rmX, rmD]; omega, by dsimp only [rmX, rmD]; omega⟩) (hf := ⟨by dsimp only [rmX]; omega, by dsimp only [rmX]; omega⟩)) hH hA (fun q9_86 pl_86 M9_86 H locs hT_86 => r_out hto hlk hT_86 (leaf_px hbad hL_c1_1 (hT_86.1)) (by omega) (by omega)) (fun M86_ H locs q_86 hH hz_86 => ?_)
            exact q_86.elim
          · -- 78F
            have hgt : c1.1.1 = tn := by
              rcases Int.lt_or_le c1.1.1 tn with z | z
              · exfalso
                have z9 := hr_c1_1.2.2.2 z
                omega
              · omega
            rw [← er1, if_neg (fun z => by have z9 : c1.1.1 < tn := z.2; omega)] at er0
            have er9 := er0
            refine n_iconst hx hb dX3_read_81 ?_
            refine lv_goto (tgt := 86) hx hb dX3_read_82 (by decide) ?_
            refine x_callv (x_runV (As := [.int (iI 1)]) (rest := []) S hH hK (hX.at hH) XRd_b hl.1 hD3.c rfl (xm_X3_mustY l G M2 K a σ P τ bo lo x1 (rL σ tn c1.1.1) (rE σ tn c1.1.1) c1.1.2.1 0 0 pf1 1 _ hD3 (by omega)) (lw_V q833 q835 qs14 q108 q836) kd_X3_must rfl rfl dX3_read_86 (hR := ⟨by dsimp only [rmX, rmD]; omega, by dsimp only [rmX, rmD]; omega⟩) (hf := ⟨by dsimp only [rmX]; omega, by dsimp only [rmX]; omega⟩)) hH hA (fun M86_ H locs q_86 hH hz_86 => ?_)
            have hH := XV_to hH q_86
            refine lv_iload_n hx hb dX3_read_89 rfl (lv_at hl 0 rfl) ?_
            refine x_newq (N := (k + 1).toNat) 11 hx hb hts hown q821 hXN q822 hK hH hA rfl (by omega) (by omega) (by dsimp only [rmX]; omega) (by dsimp only [rmX]; omega) dX3_read_90 (fun q7 H hq7 hH => ?_)
            obtain ⟨M7, e_M7⟩ : ∃ M7, M7 = hs M2 q7 (aQ (G.2.1 11) (k + 1).toNat (fun (_ : Int) => (none : Option Nat))) := ⟨_, rfl⟩
            have hH := XV_to hH e_M7.symm
            have f7 : M7 q7 = some (aQ (G.2.1 11) (k + 1).toNat (fun (_ : Int) => (none : Option Nat))) := by rw [e_M7]; exact hs_s
            obtain ⟨x8, hD8, hX8, hw8_q7⟩ := hD3.nw (e := aQ (G.2.1 11) (k + 1).toNat (fun (_ : Int) => (none : Option Nat))) hq7
            rw [← e_M7] at hD8 hX8
            have hno_q7 := Ext.no hE3 hq7
            have ne_s1_q7 : s1 ≠ q7 := fun z => by have h9 := f2; rw [z, hq7] at h9; cases h9
            have hE8 := hE3.tr hX8
            obtain ⟨f8_s1, hw8_s1⟩ := hX8.2.2 _ _ f2 hw1_s1
            have hT8_an := ArAt_up hX8.2.1 hAn4
            refine lv_astore_n hx hb dX3_read_93 rfl hl (Nat.le_of_ble_eq_true rfl) (lv' := [(3, .ref q7), (2, .int (iI (k + 1))), (0, .ref (P 7)), (1, .ref s1)]) rfl (fun ls hl => ?_)
            refine lv_aload_n hx hb dX3_read_94 rfl (lv_at hl 3 rfl) ?_
            refine n_iconst hx hb dX3_read_95 ?_
            refine lv_aload_n hx hb dX3_read_96 rfl (lv_at hl 0 rfl) ?_
            refine n_iconst hx hb dX3_read_97 ?_
            refine lv_iload_n hx hb dX3_read_98 rfl (lv_at hl 1 rfl) ?_
            refine x_copyq (rest := []) hx hb hts (hml.trans hl.1.symm) hown q1105 q769 q768 q117 hK hXN hH f8_s1 f7 rfl rfl (by omega) (by omega) (by omega) (by omega) (by omega) ⟨by omega, by omega⟩ (fun i i0 i1 y hy => ArAt_cl (M := _) hT8_an (fun a e h => hD8.I h) i (by omega) (by omega) y hy) (Nat.le_of_ble_eq_true rfl) (Nat.le_of_ble_eq_true rfl) dX3_read_99 (fun H locs hH => ?_)
            obtain ⟨M9, e_M9⟩ : ∃ M9, M9 = hs M7 q7 (aQ (G.2.1 11) (k + 1).toNat (cpZ (upq fA k (some q1)) (fun (_ : Int) => (none : Option Nat)) 0 0 (k + 1))) := ⟨_, rfl⟩
            have hH := XV_to hH e_M9.symm
            have f9 : M9 q7 = some (aQ (G.2.1 11) (k + 1).toNat (cpZ (upq fA k (some q1)) (fun (_ : Int) => (none : Option Nat)) 0 0 (k + 1))) := by rw [e_M9]; exact hs_s
            obtain ⟨hD10, hE10, hO10⟩ := RD.tmp (e := aQ (G.2.1 11) (k + 1).toNat (cpZ (upq fA k (some q1)) (fun (_ : Int) => (none : Option Nat)) 0 0 (k + 1))) hD8 hE8 hw8_q7 hno_q7
            rw [← e_M9] at hD10 hE10 hO10
            obtain ⟨f10_s1, hw10_s1⟩ := hO10 _ _ ne_s1_q7 f8_s1 hw8_s1
            refine x_new (ci := 19) hx hb hts in_X22 tyX22 tyX22_ok hown q1142 q1143 q135 hK hH hA rfl [.null] (fun j hj => by rcases (show j = 0 by omega) with rfl <;> rfl) (eN_id (by decide)) (by dsimp only [rmX]; omega) (by dsimp only [rmX]; omega) dX3_read_102 (fun q11 H hq11 hH => ?_)
            obtain ⟨M11, e_M11⟩ : ∃ M11, M11 = hs M9 q11 (oB 19 [.null]) := ⟨_, rfl⟩
            have hH := XV_to hH e_M11.symm
            have f11 : M11 q11 = some (oB 19 [.null]) := by rw [e_M11]; exact hs_s
            obtain ⟨x12, hD12, hX12, hw12_q11⟩ := hD10.nw (e := oB 19 [.null]) hq11
            rw [← e_M11] at hD12 hX12
            have hno_q11 := Ext.no hE10 hq11
            have ne_s1_q11 : s1 ≠ q11 := fun z => by have h9 := f10_s1; rw [z, hq11] at h9; cases h9
            have ne_q7_q11 : q7 ≠ q11 := fun z => by have h9 := f9; rw [z, hq11] at h9; cases h9
            have hE12 := hE10.tr hX12
            obtain ⟨f12_s1, hw12_s1⟩ := hX12.2.2 _ _ f10_s1 hw10_s1
            obtain ⟨f12_q7, hw12_q7⟩ := hX12.2.2 _ _ f9 hw8_q7
            have hT12_an := ArAt_up hX12.2.1 hT8_an
            refine lv_dup hx hb dX3_read_105 rfl ?_
            refine lv_aload_n hx hb dX3_read_106 rfl (lv_at hl 0 rfl) ?_
            refine x_callv (x_runI (As := [.ref q7]) (rest := [.ref q11]) S hH hK (fun _ _ hW => XN.warm hW hXN) XN_b hl.1 (xm_X22_init l G M11 q11 q7 _ f11) (lw_meth q1146) q135 q1144 q1145 kd_X22_init rfl rfl dX3_read_107 (hR := ⟨by dsimp only [rmX, rmD]; omega, by dsimp only [rmX, rmD]; omega⟩) (hf := ⟨by dsimp only [rmX]; omega, by dsimp only [rmX]; omega⟩)) hH hA (fun M107_ H locs q_107 hH hz_107 => ?_)
            have e_M107_ := q_107
            have f14 : M107_ q11 = some (oB 19 [.ref q7]) := by rw [e_M107_]; exact hs_s
            obtain ⟨hD15, hE15, hO15⟩ := RD.tmp (e := oB 19 [.ref q7]) hD12 hE12 hw12_q11 hno_q11
            rw [← e_M107_] at hD15 hE15 hO15
            obtain ⟨f15_s1, hw15_s1⟩ := hO15 _ _ ne_s1_q11 f12_s1 hw12_s1
            obtain ⟨f15_q7, hw15_q7⟩ := hO15 _ _ ne_q7_q11 f12_q7 hw12_q7
            refine W.widen (k := 1700) (n := 7000) (by omega) (by omega) ?_
            refine vx_ret ?_
            refine x_aret (r := some q11) hx hb hr (Or.inl ⟨_, rfl⟩) hlk hH dX3_read_110 ?_
            obtain ⟨x9, k1, k2, k3, k4, k5⟩ := row_end hD15 hE15 f15_q7 hw15_q7 hno_q7 f14 hw12_q11 hno_q11 ne_q7_q11
            subst er9
            exact ⟨f1, x9, q11, _, _, _, _, _, _, rfl, k1, k2, text_at (ArAt_up k5 hT12_an) hlen2 (by omega) k3 k4⟩
  refine n_bipush (z := 12) hx hb dX3_read_0 (by decide) ?_
  refine x_newq (N := 12) 11 hx hb hts hown q821 hXN q822 hK hH hA rfl (by decide) (by decide) (by dsimp only [rmX]; omega) (by dsimp only [rmX]; omega) dX3_read_2 (fun q16 H hq16 hH => ?_)
  obtain ⟨M16, e_M16⟩ : ∃ M16, M16 = hs M q16 (aQ (G.2.1 11) 12 (fun (_ : Int) => (none : Option Nat))) := ⟨_, rfl⟩
  have hH := XV_to hH e_M16.symm
  have f16 : M16 q16 = some (aQ (G.2.1 11) 12 (fun (_ : Int) => (none : Option Nat))) := by rw [e_M16]; exact hs_s
  obtain ⟨x17, hD17, hX17, hw17_q16⟩ := hD.nw (e := aQ (G.2.1 11) 12 (fun (_ : Int) => (none : Option Nat))) hq16
  rw [← e_M16] at hD17 hX17
  have hno_q16 := Ext.no (Ext.rf (M := M) (x := x)) hq16
  refine lv_astore_n hx hb dX3_read_5 rfl hl (Nat.le_of_ble_eq_true rfl) (lv' := [(1, .ref q16), (0, .ref (P 7))]) rfl (fun ls hl => ?_)
  refine n_iconst hx hb dX3_read_6 ?_
  refine lv_istore_n hx hb dX3_read_7 rfl hl (Nat.le_of_ble_eq_true rfl) (lv' := [(2, .int (iI 0)), (1, .ref q16), (0, .ref (P 7))]) rfl (fun ls hl => ?_)
  refine lv_aload_n hx hb dX3_read_8 rfl (lv_at hl 2 rfl) ?_
  refine n_iconst hx hb dX3_read_9 ?_
  refine x_put (ty := .int) hx hb hts in_X3 tyX3 tyX3_ok nmX3 hown hK hH hD17.c rfl 1 (by decide) q308 (fun _ h9 => h9) rfl (by decide +kernel) rfl rfl (Nat.le_of_ble_eq_true rfl) (by decide) dX3_read_10 (fun H locs hH => ?_)
  obtain ⟨M18, e_M18⟩ : ∃ M18, M18 = hs M16 (P 7) (oB 4 [.int (iI F), .int (iI 0), .int (iI l_), .int (iI d_), .int (iI p_), .ref (P 24), .ref (P 25), .ref (P 26), .ref (P 27), .ref a]) := ⟨_, rfl⟩
  have hH := XV_to hH e_M18.symm
  have f18 : M18 (P 7) = some (oB 4 [.int (iI F), .int (iI 0), .int (iI l_), .int (iI d_), .int (iI p_), .ref (P 24), .ref (P 25), .ref (P 26), .ref (P 27), .ref a]) := by rw [e_M18]; exact hs_s
  obtain ⟨hD19, hX19⟩ := hD17.put1 (v := 0)
  rw [← e_M18] at hD19 hX19
  have hE19 := hX17.tr hX19
  obtain ⟨f19_q16, hw19_q16⟩ := hX19.2.2 _ _ f16 hw17_q16
  refine lv_aload_n hx hb dX3_read_13 rfl (lv_at hl 2 rfl) ?_
  refine n_iconst hx hb dX3_read_14 ?_
  refine x_put (ty := .int) hx hb hts in_X3 tyX3 tyX3_ok nmX3 hown hK hH hD19.c rfl 2 (by decide) q309 (fun _ h9 => h9) rfl (by decide +kernel) rfl rfl (Nat.le_of_ble_eq_true rfl) (by decide) dX3_read_15 (fun H locs hH => ?_)
  obtain ⟨M20, e_M20⟩ : ∃ M20, M20 = hs M18 (P 7) (oB 4 [.int (iI F), .int (iI 0), .int (iI 0), .int (iI d_), .int (iI p_), .ref (P 24), .ref (P 25), .ref (P 26), .ref (P 27), .ref a]) := ⟨_, rfl⟩
  have hH := XV_to hH e_M20.symm
  have f20 : M20 (P 7) = some (oB 4 [.int (iI F), .int (iI 0), .int (iI 0), .int (iI d_), .int (iI p_), .ref (P 24), .ref (P 25), .ref (P 26), .ref (P 27), .ref a]) := by rw [e_M20]; exact hs_s
  obtain ⟨hD21, hX21⟩ := hD19.put2 (v := 0)
  rw [← e_M20] at hD21 hX21
  have hE21 := hE19.tr hX21
  obtain ⟨f21_q16, hw21_q16⟩ := hX21.2.2 _ _ f19_q16 hw19_q16
  refine lv_aload_n hx hb dX3_read_18 rfl (lv_at hl 2 rfl) ?_
  refine n_iconst hx hb dX3_read_19 ?_
  refine x_put (ty := .int) hx hb hts in_X3 tyX3 tyX3_ok nmX3 hown hK hH hD21.c rfl 3 (by decide) q310 (fun _ h9 => h9) rfl (by decide +kernel) rfl rfl (Nat.le_of_ble_eq_true rfl) (by decide) dX3_read_20 (fun H locs hH => ?_)
  obtain ⟨M22, e_M22⟩ : ∃ M22, M22 = hs M20 (P 7) (oB 4 [.int (iI F), .int (iI 0), .int (iI 0), .int (iI 0), .int (iI p_), .ref (P 24), .ref (P 25), .ref (P 26), .ref (P 27), .ref a]) := ⟨_, rfl⟩
  have hH := XV_to hH e_M22.symm
  have f22 : M22 (P 7) = some (oB 4 [.int (iI F), .int (iI 0), .int (iI 0), .int (iI 0), .int (iI p_), .ref (P 24), .ref (P 25), .ref (P 26), .ref (P 27), .ref a]) := by rw [e_M22]; exact hs_s
  obtain ⟨hD23, hX23⟩ := hD21.put3 (v := 0)
  rw [← e_M22] at hD23 hX23
  have hE23 := hE21.tr hX23
  obtain ⟨f23_q16, hw23_q16⟩ := hX23.2.2 _ _ f21_q16 hw21_q16
  refine lv_aload_n hx hb dX3_read_23 rfl (lv_at hl 2 rfl) ?_
  refine n_iconst hx hb dX3_read_24 ?_
  refine x_put (ty := .int) hx hb hts in_X3 tyX3 tyX3_ok nmX3 hown hK hH hD23.c rfl 4 (by decide) q311 (fun _ h9 => h9) rfl (by decide +kernel) rfl rfl (Nat.le_of_ble_eq_true rfl) (by decide) dX3_read_25 (fun H locs hH => ?_)
  obtain ⟨M24, e_M24⟩ : ∃ M24, M24 = hs M22 (P 7) (oB 4 [.int (iI F), .int (iI 0), .int (iI 0), .int (iI 0), .int (iI 0), .ref (P 24), .ref (P 25), .ref (P 26), .ref (P 27), .ref a]) := ⟨_, rfl⟩
  have hH := XV_to hH e_M24.symm
  have f24 : M24 (P 7) = some (oB 4 [.int (iI F), .int (iI 0), .int (iI 0), .int (iI 0), .int (iI 0), .ref (P 24), .ref (P 25), .ref (P 26), .ref (P 27), .ref a]) := by rw [e_M24]; exact hs_s
  obtain ⟨hD25, hX25⟩ := hD23.put4 (v := 0)
  rw [← e_M24] at hD25 hX25
  have hE25 := hE23.tr hX25
  obtain ⟨f25_q16, hw25_q16⟩ := hX25.2.2 _ _ f23_q16 hw23_q16
  refine lv_aload_n hx hb dX3_read_28 rfl (lv_at hl 2 rfl) ?_
  refine x_callv (x_runV (As := []) (rest := []) S hH hK (hX.at hH) XRd_b hl.1 hD25.c rfl (xm_X3_next l G M24 K a σ P τ bo lo x17 F 0 0 0 0 pf _ hD25 hB8 (by omega) (by omega) (by omega)) (lw_V q823 q825 qs13 q108 q826) kd_X3_next rfl rfl dX3_read_29 (hR := ⟨by dsimp only [rmX, rmD]; omega, by dsimp only [rmX, rmD]; omega⟩) (hf := ⟨by dsimp only [rmX]; omega, by dsimp only [rmX]; omega⟩)) hH hA (fun M29_ H locs q_29 hH hz_29 => ?_)
  obtain ⟨hD26, hX26⟩ := q_29
  have hE26 := hE25.tr hX26
  obtain ⟨f26_q16, hw26_q16⟩ := hX26.2.2 _ _ f25_q16 hw25_q16
  have hl : lv_has ls 4 [(0, .ref (P 7)), (1, .ref q16), (2, .int (iI 0))] := lv_sub hl [2, 1, 0] rfl
  refine W.widen (k := 1 + (4 * ((0, 0, -1) : PS).1).toNat) (n := 12 + (16 * ((0, 0, -1) : PS).1).toNat) (by omega) (by omega) ?_
  refine L32 402 M29_ x17 ((0, 0, -1) : PS) pf 0 ([] : List Cl) (fun (_ : Int) => (none : Option Nat)) q16 ?_ ?_ ?_ ?_ ?_ ?_ ?_ ?_ ?_ ?_ ?_ ?_ _ _ _ hH hl
  · have hz9 := hD26
    rw [(tok_0 hTE).1, (tok_0 hTE).2] at hz9
    exact hz9
  · exact hE26
  · exact BS_00 hTK
  · rfl
  · rw [if_neg (by decide), e2]
    exact e3
  · rfl
  · omega
  · exact fun j hj => absurd hj (Nat.not_lt_zero _)
  · exact f26_q16
  · exact hw26_q16
  · exact hno_q16
  · show (tn : Int) - 0 < 402; omega
