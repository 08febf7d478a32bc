/-! DESCENT: what a text says, by a recursive descent over its tokens; a code for each sum or question -/
set_option maxRecDepth 100000
/-- a fault at a token (0: no more fuel), or a code and the token behind -/
abbrev RD : Type := Sum (Int32 × Nat) (Cd × Nat)
def bd (r : RD) (k : Cd → Nat → RD) : RD := match r with
  | .inl e => .inl e
  | .inr q => k q.1 q.2
/-- the tokens of a tape -/
def tkL (t : Nat → Int32) (n : Nat) (L0 : Lq) : Nat → Lq
  | 0 => lexL t n 0 L0
  | i + 1 => lexL t n (cI (tkL t n L0 i).1) (tkL t n L0 i)
section RDS
variable (B : Nat → Int32) (K : Nat → Lq) (lets : Bool)
def nmK (i : Nat) : Int32 := nameF B (K i) (cI (K i).2.1)
def cpK (i : Nat) : Int32 := cmpF B (K i) (cI (K i).2.1)
/-- modes: 0 one, 1 product, 2 the rest of a product, 3 sum, 4 the rest of a sum, 5 ask, 6 both, 7 the rest, 8 either, 9 the rest -/
def rdOne (R : Nat → Cd → Nat → Int32 → RD) (i : Nat) (o : Int32) : RD :=
  if (K i).2.2.1 = 1 then (if 9999 < (K i).2.2.2.1 then .inl (2, i) else .inr ([(0, (K i).2.2.2.1)], i + 1))
  else if 0 ≤ nmK B K i then (if nmK B K i = 7 ∧ lets = true then .inl (5, i) else .inr ([(1, nmK B K i)], i + 1))
  else if (K i).2.2.1 = 40 then (if o = 8 then .inl (3, i) else bd (R 3 [] (i + 1) (o + 1)) fun c j => if (K j).2.2.1 = 41 then .inr (c, j + 1) else .inl (1, j))
  else if (K i).2.2.1 = 45 then (if o = 8 then .inl (3, i) else bd (R 0 [] (i + 1) (o + 1)) fun c j => .inr (c ++ [(2, 0)], j))
  else if isWd (K i) (w5F 100 105 103 105 116) = true then (if o = 8 then .inl (3, i) else bd (R 0 [] (i + 1) (o + 1)) fun c j =>
    if isWd (K j) (w2F 111 102) = true then bd (R 0 [] (j + 1) (o + 1)) fun c2 j2 => .inr (c ++ c2 ++ [(7, 0)], j2) else .inl (1, j))
  else .inl (1, i)
def rdAsk (R : Nat → Cd → Nat → Int32 → RD) (i : Nat) (o : Int32) : RD :=
  if isWd (K i) (w3F 110 111 116) = true then (if o = 8 then .inl (3, i) else bd (R 5 [] (i + 1) (o + 1)) fun c j => .inr (c ++ [(20, 0)], j))
  else bd (R 3 [] i o) fun c j => if cpK B K j = -1 then .inl (1, j) else bd (R 3 [] (j + 1) o) fun c2 j2 => .inr (c ++ c2 ++ [(cpK B K j, 0)], j2)
def rdS (R : Nat → Cd → Nat → Int32 → RD) (md : Nat) (C : Cd) (i : Nat) (o : Int32) : RD :=
  if md = 0 then rdOne B K lets R i o
  else if md = 1 then bd (R 0 [] i o) fun c j => R 2 c j o
  else if md = 2 then (if (K i).2.2.1 = 42 then bd (R 0 [] (i + 1) o) fun c j => R 2 (C ++ c ++ [(5, 0)]) j o
    else if (K i).2.2.1 = 47 then bd (R 0 [] (i + 1) o) fun c j => R 2 (C ++ c ++ [(6, 0)]) j o else .inr (C, i))
  else if md = 3 then bd (R 1 [] i o) fun c j => R 4 c j o
  else if md = 4 then (if (K i).2.2.1 = 43 then bd (R 1 [] (i + 1) o) fun c j => R 4 (C ++ c ++ [(3, 0)]) j o
    else if (K i).2.2.1 = 45 then bd (R 1 [] (i + 1) o) fun c j => R 4 (C ++ c ++ [(4, 0)]) j o else .inr (C, i))
  else if md = 5 then rdAsk B K R i o
  else if md = 6 then bd (R 5 [] i o) fun c j => R 7 c j o
  else if md = 7 then (if isWd (K i) (w3F 97 110 100) = true then bd (R 5 [] (i + 1) o) fun c j => R 7 (C ++ c ++ [(21, 0)]) j o else .inr (C, i))
  else if md = 8 then bd (R 6 [] i o) fun c j => R 9 c j o
  else (if isWd (K i) (w2F 111 114) = true then bd (R 6 [] (i + 1) o) fun c j => R 9 (C ++ c ++ [(22, 0)]) j o else .inr (C, i))
def rd : Nat → Nat → Cd → Nat → Int32 → RD
  | 0, _, _, i, _ => .inl (0, i)
  | f + 1, md, C, i, o => rdS B K lets (rd f) md C i o
end RDS
