/-! PURE 10: sets of dates, counted one by one -/
set_option maxRecDepth 100000
abbrev Cq : Type := Int32 × Int32 × (Nat → Int32)
def okS (W O x : Int32) : Bool := decide (W &&& (x ^^^ -1) = 0) && decide (O &&& x = 0)
def addW (w : Nat → Int32) (x : Int32) (k : Nat) : Nat → Int32 := fun j => if j < k then w j + (x >>> (nI j &&& 31) &&& 1) else w j
def cntS (W O : Int32) (q : Cq) (x : Int32) : Cq := if okS W O x = true then (q.1 + 1, q.2.1 &&& x, addW q.2.2 x 20) else q
theorem addW_0 {w : Nat → Int32} {x : Int32} : addW w x 0 = w := by
  funext j
  unfold addW
  rw [if_neg (by omega)]
theorem addW_s {w : Nat → Int32} {x : Int32} {k : Nat} : up (addW w x k) k (addW w x k k + (x >>> (nI k &&& 31) &&& 1)) = addW w x (k + 1) := by
  funext j
  unfold addW up
  by_cases h : j = k
  · subst h
    simp
  · by_cases h2 : j < k
    · simp [h, h2, Nat.lt_succ_of_lt h2]
    · simp [h, h2]
      intro h3
      omega
def foldUp {β : Type} (f : β → Nat → β) (b : β) (lo : Nat) : Nat → β
  | 0 => b
  | k + 1 => f (foldUp f b lo k) (lo + k)
/-- the state while sets are counted -/
def sl (s : Sg) (W O : Int32) (q : Cq) : Sg := (up s.A 635 q.2.2, up (up (up (up s.S 25 W) 26 O) 27 q.1) 28 q.2.1, s.2.2)
section SL
variable {s : Sg} {W O : Int32} {q : Cq}
theorem sl_25 : (sl s W O q).S 25 = W := by show up (up (up (up s.S 25 W) 26 O) 27 q.1) 28 q.2.1 25 = W; rw [up_ne (by decide), up_ne (by decide), up_ne (by decide), up_eq]
theorem sl_26 : (sl s W O q).S 26 = O := by show up (up (up (up s.S 25 W) 26 O) 27 q.1) 28 q.2.1 26 = O; rw [up_ne (by decide), up_ne (by decide), up_eq]
theorem sl_27 : (sl s W O q).S 27 = q.1 := by show up (up (up (up s.S 25 W) 26 O) 27 q.1) 28 q.2.1 27 = q.1; rw [up_ne (by decide), up_eq]
theorem sl_28 : (sl s W O q).S 28 = q.2.1 := up_eq (f := up (up (up s.S 25 W) 26 O) 27 q.1) (k := 28) (x := q.2.1)
theorem sl_635 : (sl s W O q).A 635 = q.2.2 := up_eq (f := s.A) (k := 635) (x := q.2.2)
theorem sl_A {k : Nat} (h : k ≠ 635) : (sl s W O q).A k = s.A k := up_ne h
theorem sl_s25 {x : Int32} : (sl s W O q).setS 25 x = sl s x O q := by
  show (up s.A 635 q.2.2, up (up (up (up (up s.S 25 W) 26 O) 27 q.1) 28 q.2.1) 25 x, s.2.2) = (up s.A 635 q.2.2, up (up (up (up s.S 25 x) 26 O) 27 q.1) 28 q.2.1, s.2.2)
  rw [up_com (j := 28) (k := 25) (by decide), up_com (j := 27) (k := 25) (by decide), up_com (j := 26) (k := 25) (by decide), up_up]
theorem sl_s26 {x : Int32} : (sl s W O q).setS 26 x = sl s W x q := by
  show (up s.A 635 q.2.2, up (up (up (up (up s.S 25 W) 26 O) 27 q.1) 28 q.2.1) 26 x, s.2.2) = (up s.A 635 q.2.2, up (up (up (up s.S 25 W) 26 x) 27 q.1) 28 q.2.1, s.2.2)
  rw [up_com (j := 28) (k := 26) (by decide), up_com (j := 27) (k := 26) (by decide), up_up]
theorem sl_s27 {x : Int32} : (sl s W O q).setS 27 x = sl s W O (x, q.2) := by
  show (up s.A 635 q.2.2, up (up (up (up (up s.S 25 W) 26 O) 27 q.1) 28 q.2.1) 27 x, s.2.2) = (up s.A 635 q.2.2, up (up (up (up s.S 25 W) 26 O) 27 x) 28 q.2.1, s.2.2)
  rw [up_com (j := 28) (k := 27) (by decide), up_up]
theorem sl_s28 {x : Int32} : (sl s W O q).setS 28 x = sl s W O (q.1, x, q.2.2) := by
  show (up s.A 635 q.2.2, up (up (up (up (up s.S 25 W) 26 O) 27 q.1) 28 q.2.1) 28 x, s.2.2) = (up s.A 635 q.2.2, up (up (up (up s.S 25 W) 26 O) 27 q.1) 28 x, s.2.2)
  rw [up_up]
theorem sl_s635 {f : Nat → Int32} : (sl s W O q).setA 635 f = sl s W O (q.1, q.2.1, f) := by
  show (up (up s.A 635 q.2.2) 635 f, up (up (up (up s.S 25 W) 26 O) 27 q.1) 28 q.2.1, s.2.2) = (up s.A 635 f, up (up (up (up s.S 25 W) 26 O) 27 q.1) 28 q.2.1, s.2.2)
  rw [up_up]
theorem sl_id : sl s (s.S 25) (s.S 26) (s.S 27, s.S 28, s.A 635) = s := by
  show (up s.A 635 (s.A 635), up (up (up (up s.S 25 (s.S 25)) 26 (s.S 26)) 27 (s.S 27)) 28 (s.S 28), s.2.2) = s
  rw [up_self, up_self, up_self, up_self, up_self]
  rfl
end SL
/-- what was seen: how many; house, date, shut of each -/
def Ew : Type := Int32 × (Nat → Int32) × (Nat → Int32) × (Nat → Int32)
def Ew.N (g : Ew) : Int32 := g.1
def Ew.n (g : Ew) : Nat := cI g.N
def Ew.h (g : Ew) : Nat → Int32 := g.2.1
def Ew.d (g : Ew) : Nat → Int32 := g.2.2.1
def Ew.s (g : Ew) : Nat → Int32 := g.2.2.2
def Ew.ok (g : Ew) : Prop := 0 ≤ g.N.toInt ∧ g.N.toInt ≤ 8
theorem Ew.n8 {g : Ew} (hg : g.ok) : g.n ≤ 8 := by
  have := cI_of hg.1
  have := hg.2
  unfold Ew.n
  omega
theorem Ew.nN {g : Ew} (hg : g.ok) : nI g.n = g.N := nI_cI hg.1
def ewM (a : Nat → Int32) : Ew := (a 4, fun i => if i < cI (a 4) then a (68 + 3 * i) else 0, fun i => if i < cI (a 4) then a (68 + 3 * i + 1) else 0, fun i => if i < cI (a 4) then a (68 + 3 * i + 2) else 0)
theorem ewM_h {a : Nat → Int32} {i : Nat} (h : i < (ewM a).n) : (ewM a).h i = a (68 + 3 * i) := if_pos h
theorem ewM_d {a : Nat → Int32} {i : Nat} (h : i < (ewM a).n) : (ewM a).d i = a (68 + 3 * i + 1) := if_pos h
theorem ewM_s {a : Nat → Int32} {i : Nat} (h : i < (ewM a).n) : (ewM a).s i = a (68 + 3 * i + 2) := if_pos h
/-- one note: shut on, open on -/
def noteP (q : Int32 × Int32) (d z : Int32) : Int32 × Int32 := if z = 1 then (q.1 ||| bit d, q.2) else (q.1, q.2 ||| bit d)
def bookP (b : Bw) (h : Int32) (q : Int32 × Int32) : Nat → Int32 × Int32
  | 0 => q
  | k + 1 => if b.h k = h then noteP (bookP b h q k) (b.d k % 20) (b.s k) else bookP b h q k
def seenP (e : Ew) (h : Int32) (q : Int32 × Int32) : Nat → Int32 × Int32
  | 0 => q
  | k + 1 => if e.h k = h then noteP (seenP e h q k) (e.d k) (e.s k) else seenP e h q k
def datesP (b : Bw) (e : Ew) (h : Int32) : Int32 × Int32 := seenP e h (bookP b h (0, 0) b.n) e.n
def sets1 (W O : Int32) (q : Cq) : Cq := foldUp (fun q x => cntS W O q (bit (nI x))) q 0 20
def sets2 (W O : Int32) (q : Cq) : Cq := foldUp (fun q x => foldUp (fun q y => cntS W O q (bit (nI x) ||| bit (nI y))) q (x + 1) (19 - x)) q 0 20
def sets3 (W O : Int32) (q : Cq) : Cq := foldUp (fun q x => foldUp (fun q y => foldUp (fun q u => cntS W O q (bit (nI x) ||| bit (nI y) ||| bit (nI u))) q (y + 1) (19 - y)) q (x + 1) (19 - x)) q 0 20
def setsM (W O m : Int32) (q : Cq) : Cq := if m = 1 then sets1 W O q else if m = 2 then sets2 W O q else sets3 W O q
def zero20 (w : Nat → Int32) : Nat → Int32 := mv w 0 (fun _ => 0) 20
