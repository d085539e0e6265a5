theorem st_comm {τ : St} {f g : Nat} {i j v w : Int} (h : f ≠ g) : st (st τ f i v) g j w = st (st τ g j w) f i v := by
  funext x
  unfold st sa
  by_cases a : x = f
  · subst a
    rw [if_neg h, if_pos rfl, if_pos rfl, if_neg h]
  · by_cases b : x = g
    · subst b
      rw [if_pos rfl, if_neg a, if_neg (Ne.symm h), if_pos rfl]
    · rw [if_neg b, if_neg a, if_neg a, if_neg b]
theorem st_st {τ : St} {f : Nat} {i v w : Int} : st (st τ f i v) f i w = st τ f i w := by
  unfold st
  rw [sa_s, sa_sa, up_up]
theorem sa_self {τ : St} {f : Nat} : sa τ f (τ f) = τ := by
  funext g
  unfold sa
  by_cases h : g = f
  · subst h; exact if_pos rfl
  · exact if_neg h
/-- t tokens of the tape are cut -/
def cutS (σ : St) (n : Int) (t : Nat) : St := sa (sa (sa (st σ 14 0 t) 11 (cpA (σ 11) 0 t (fun j => cdAt (σ 7) n (ps (σ 7) n j.toNat)))) 12 (cpA (σ 12) 0 t (fun j => vlAt (σ 7) n (ps (σ 7) n j.toNat)))) 13 (cpA (σ 13) 0 t (fun j => ps (σ 7) n j.toNat))
def cutE (σ : St) (n : Int) (t : Nat) : St := st (st (st (cutS σ n t) 13 t n) 11 t 0) 12 t 0
theorem cutS_0 {σ : St} {n : Int} : st σ 14 0 0 = cutS σ n 0 := by
  unfold cutS
  rw [show ((0 : Nat) : Int) = 0 from rfl, cpA_0, cpA_0, cpA_0]
  funext g
  unfold sa
  by_cases a : g = 13
  · subst a; rfl
  · rw [if_neg a]
    by_cases b : g = 12
    · subst b; rfl
    · rw [if_neg b]
      by_cases c : g = 11
      · subst c; rfl
      · rw [if_neg c]
theorem cutS_11 {σ : St} {n : Int} {t : Nat} : cutS σ n t 11 = cpA (σ 11) 0 t (fun j => cdAt (σ 7) n (ps (σ 7) n j.toNat)) := rfl
theorem cutS_12 {σ : St} {n : Int} {t : Nat} : cutS σ n t 12 = cpA (σ 12) 0 t (fun j => vlAt (σ 7) n (ps (σ 7) n j.toNat)) := rfl
theorem cutS_13 {σ : St} {n : Int} {t : Nat} : cutS σ n t 13 = cpA (σ 13) 0 t (fun j => ps (σ 7) n j.toNat) := rfl
theorem cutS_o {σ : St} {n : Int} {t : Nat} {g : Nat} (a : g ≠ 11) (b : g ≠ 12) (c : g ≠ 13) (d : g ≠ 14) : cutS σ n t g = σ g := by
  unfold cutS
  rw [sa_n c, sa_n b, sa_n a, st_n d]
theorem cutS_s {σ : St} {n k c v : Int} {t : Nat} (hk : ps (σ 7) n t = k) (hc : c = cdAt (σ 7) n k) (hv : v = vlAt (σ 7) n k) : st (st (st (st (cutS σ n t) 13 t k) 11 t c) 12 t v) 14 0 ((t : Int) + 1) = cutS σ n (t + 1) := by
  have e : ∀ f : Int → Int, ∀ src : Int → Int, ∀ x : Int, x = src t → up (cpA f 0 t src) t x = cpA f 0 ((t + 1 : Nat) : Int) src := fun f src x hx => by
    have := cpA_s (a := f) (to := 0) (n := (t : Int)) (src := src) (by omega)
    rw [Int.zero_add] at this
    rw [hx, this]
    rfl
  funext g
  by_cases a : g = 11
  · subst a
    rw [st_n (by decide), st_n (by decide), st_f, st_n (by decide), cutS_11, cutS_11]
    exact e _ _ _ (by rw [hc, ← hk]; rfl)
  · by_cases b : g = 12
    · subst b
      rw [st_n (by decide), st_f, st_n (by decide), st_n (by decide), cutS_12, cutS_12]
      exact e _ _ _ (by rw [hv, ← hk]; rfl)
    · by_cases d : g = 13
      · subst d
        rw [st_n (by decide), st_n (by decide), st_n (by decide), st_f, cutS_13, cutS_13]
        exact e _ _ _ (by rw [← hk]; rfl)
      · by_cases z : g = 14
        · subst z
          rw [st_f, st_n (by decide), st_n (by decide), st_n (by decide)]
          show up (up (σ 14) 0 t) 0 _ = up (σ 14) 0 _
          rw [up_up]
          rfl
        · rw [st_n z, st_n b, st_n a, st_n d, cutS_o a b d z, cutS_o a b d z]
theorem vl_fin {T : Int → Int} {n k i : Int} (hid : i = k ∨ digP (T k)) (h : ¬ digP (T k) ∨ i = enT T n k) : vlN T k (i - k).toNat = vlAt T n k := by
  unfold vlAt
  by_cases q : digP (T k)
  · rw [if_pos q]
    rcases h with y | y
    · exact absurd q y
    · rw [y]
  · rw [if_neg q]
    rcases hid with y | y
    · rw [y, show (k - k).toNat = 0 by omega]
      rfl
    · exact absurd y q
theorem en_1 {T : Int → Int} {n k j : Int} (h : (lowP (T k) ∧ j = enT T n k) ∨ (¬ lowP (T k) ∧ j = k + 1)) (hd : ¬ digP (T k)) : j = enT T n k := by
  rcases h with q | q
  · exact q.2
  · rw [q.2]
    unfold enT
    rw [if_neg q.1, if_neg hd]
theorem en_2 {T : Int → Int} {n k j : Int} (hd : digP (T k)) (hje : digE T n j = digE T n (k + 1)) (hs : ¬ (j < n ∧ digP (T j))) : j = enT T n k := by
  unfold enT
  rw [if_neg (by omega), if_pos hd, ← hje, digE_n hs]
theorem en_3 {T : Int → Int} {n k j : Int} (hl : lowP (T k)) (hje : lowE T n j = lowE T n (k + 1)) (hs : ¬ (j < n ∧ lowP (T j))) : j = enT T n k := by
  unfold enT
  rw [if_pos hl, ← hje, lowE_n hs]
