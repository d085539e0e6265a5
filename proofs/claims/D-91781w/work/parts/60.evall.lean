theorem sev_0 {l : Launch} {G : MG} {y : MethodName} {cc : ByteArray} {mL mode : Nat} : SEv l G y cc mL mode 0 := fun σ0 g b live f j sz _ _ _ _ _ e => by
  rw [mn] at e
  cases e
theorem tev_0 {l : Launch} {G : MG} {y : MethodName} {cc : ByteArray} {mL mode : Nat} : TEv l G y cc mL mode 0 := fun σ0 g b live f j sz _ _ _ _ _ e => by
  rw [mn] at e
  cases e
/-- all askers, at every depth -/
theorem ev_all (l : Launch) (G : MG) : ∀ n : Nat, SEv l G yX4_partOf cX4_partOf 4 0 n ∧ SEv l G yX4_termOf cX4_termOf 7 1 n ∧ SEv l G yX4_sumOf cX4_sumOf 7 2 n ∧ TEv l G yX4_plainOf cX4_plainOf 3 3 n ∧ TEv l G yX4_bothOf cX4_bothOf 4 4 n ∧ TEv l G yX4_testOf cX4_testOf 4 5 n ∧ TEv l G yX4_positiveOf cX4_positiveOf 8 6 n
  | 0 => ⟨sev_0, sev_0, sev_0, tev_0, tev_0, tev_0, tev_0⟩
  | n + 1 => by
    obtain ⟨h0, h1, h2, h3, h4, h5, h6⟩ := ev_all l G n
    exact ⟨mv_partOf l G n h2, mv_termOf l G n h0, mv_sumOf l G n h1, mv_plainOf l G n h6, mv_bothOf l G n h3, mv_testOf l G n h4, mv_positiveOf l G n h5 h2⟩
