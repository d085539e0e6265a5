/-! READING: what the model's readers make of token, leaves, bad -/
abbrev PS : Type := Int × Int × Int
def fauP (L : Int → Int) (s : PS) : PS := if s.2.2 = -1 then (s.1, s.2.1, L s.1) else s
abbrev takP (C : Int → Int) (c : Int) (s : PS) : Prop := s.2.2 = -1 ∧ C s.1 = c
def advP (s : PS) : PS := (s.1 + 1, s.2.1, s.2.2)
def musP (C L : Int → Int) (c : Int) (s : PS) : PS := if takP C c s then advP s else fauP L s
def leaQ (L : Int → Int) (s : PS) : PS := ((if s.2.1 = 50 then fauP L s else s).1, (if s.2.1 = 50 then fauP L s else s).2.1 + 1, (if s.2.1 = 50 then fauP L s else s).2.2)
def leaP (L : Int → Int) (s : PS) : PS := if (leaQ L s).2.2 = -1 then advP (leaQ L s) else leaQ L s
def opnP (L : Int → Int) (deep : Int) (s : PS) : PS := if deep = 8 then fauP L s else s
def lpR (C : Int → Int) (c1 c2 : Int) (b : PS → Option PS) : Nat → PS → Option PS
  | 0, _ => none
  | k + 1, s => if takP C c1 s ∨ takP C c2 s then (b (advP s)).bind (lpR C c1 c2 b k) else some s
/-- the grammar: 0 part, 1 term, 2 sum, 3 plain, 4 both, 5 test -/
def rd (C V L : Int → Int) : Nat → Nat → Int → PS → Option PS
  | 0, _, _, _ => none
  | n + 1, mode, deep, s => match mode with
    | 0 => if s.2.2 = -1 then
        if C s.1 = 191 then (if (opnP L deep s).2.2 = -1 then (rd C V L n 2 (deep + 1) (advP (opnP L deep s))).map (musP C L 193) else some (opnP L deep s))
        else if (C s.1 = 50 ∧ V s.1 ≤ 100000) ∨ (17 ≤ C s.1 ∧ C s.1 ≤ 24) then some (leaP L s) else some (fauP L s)
      else some s
    | 1 => (rd C V L n 0 deep s).bind (lpR C 142 147 (rd C V L n 0 deep) 402)
    | 2 => (rd C V L n 1 deep s).bind (lpR C 143 145 (rd C V L n 1 deep) 402)
    | 3 => (lpR C 9 9 some 402 s).bind (fun s => if s.2.2 = -1 then
        if C s.1 = 140 then (if (opnP L deep s).2.2 = -1 then (rd C V L n 5 (deep + 1) (advP (opnP L deep s))).map (musP C L 141) else some (opnP L deep s))
        else if 10 ≤ C s.1 ∧ C s.1 ≤ 16 then some (leaP L s)
        else (rd C V L n 2 deep s).bind (fun s1 => rd C V L n 2 deep (if takP C 160 s1 ∨ takP C 162 s1 then advP s1 else musP C L 161 s1))
      else some s)
    | 4 => (rd C V L n 3 deep s).bind (lpR C 8 8 (rd C V L n 3 deep) 402)
    | _ => (rd C V L n 4 deep s).bind (lpR C 7 7 (rd C V L n 4 deep) 402)
def clRa (C V L : Int → Int) (n : Nat) (s : PS) : Option PS := if takP C 3 s ∨ takP C 4 s then rd C V L n 2 0 (advP s) else some (if takP C 1 s ∨ takP C 2 s then advP s else musP C L 5 s)
def clR (C V L : Int → Int) (n : Nat) (s : PS) : Option PS := (clRa C V L n s).bind (fun s1 => if takP C 6 s1 then rd C V L n 5 0 (advP s1) else some s1)
/-- the clauses behind the first: k is the number of the next -/
def clLp (C V L : Int → Int) (n : Nat) : Nat → Int → PS → Option PS
  | 0, _, _ => none
  | m + 1, k, s => if takP C 159 s then
      (if (if k = 12 then fauP L (advP s) else advP s).2.2 = -1 then clR C V L n (if k = 12 then fauP L (advP s) else advP s) else some (if k = 12 then fauP L (advP s) else advP s)).bind (clLp C V L n m (k + 1))
    else some s
def rdAll (C V L : Int → Int) (n : Nat) (t : Int) : Option PS := ((clR C V L n (0, 0, -1)).bind (clLp C V L n 402 1)).map (fun s => if s.2.2 = -1 ∧ s.1 < t then fauP L s else s)
/-- what a step of reading may do: the token goes on, as far as the end; it stands still once something is bad -/
def stepP (L : Int → Int) (t : Int) (s s' : PS) : Prop := s.1 ≤ s'.1 ∧ s'.1 ≤ t ∧ s.2.1 ≤ s'.2.1 ∧ s'.2.1 ≤ s.2.1 + (s'.1 - s.1) + 1 ∧ (s.2.2 ≠ -1 → s'.2.2 = s.2.2 ∧ s'.1 = s.1 ∧ s'.2.1 = s.2.1) ∧ (s'.2.2 = -1 → s'.2.1 ≤ s.2.1 + (s'.1 - s.1))
