/-! AX: an end over some heap of a kind; what is scratch -/
set_option maxRecDepth 100000
def AX (Q : AH → Prop) (d : Nat) (M : Mt) (h : AH) (pc : Nat) (ls : List (Option Value)) (st : List Value) (o : OR) : Prop := ∃ h', Q h' ∧ AW d M h pc ls st o h'
def RX (Q : AH → Prop) (d : Nat) (M : Mt) (av : List Value) (h : AH) (r : Option Value) : Prop := ∃ h', Q h' ∧ Run d M av h (.inl r) h'
section AXS
variable {Q : AH → Prop} {d : Nat} {M M2 : Mt} {h h1 h2 : AH} {pc pc1 pc2 : Nat} {ls ls1 ls2 : List (Option Value)} {st st1 st2 : List Value} {o o1 o2 : OR}
theorem AX.map (f : ∀ h', AW d M h1 pc1 ls1 st1 o1 h' → AW d M h pc ls st o h') (k : AX Q d M h1 pc1 ls1 st1 o1) : AX Q d M h pc ls st o := by
  obtain ⟨h', q, w⟩ := k
  exact ⟨h', q, f h' w⟩
theorem AX.br {C D : Prop} (f : ∀ h', (C → AW d M h1 pc1 ls1 st1 o1 h') → (D → AW d M h2 pc2 ls2 st2 o2 h') → AW d M h pc ls st o h') (hCD : C ∨ D) (hx : C → D → False) (kt : C → AX Q d M h1 pc1 ls1 st1 o1) (kf : D → AX Q d M h2 pc2 ls2 st2 o2) : AX Q d M h pc ls st o := by
  rcases hCD with c | c
  · obtain ⟨h', q, w⟩ := kt c
    exact ⟨h', q, f h' (fun _ => w) (fun c2 => (hx c c2).elim)⟩
  · obtain ⟨h', q, w⟩ := kf c
    exact ⟨h', q, f h' (fun c1 => (hx c1 c).elim) (fun _ => w)⟩
theorem AX.brN {C : Prop} (f : ∀ h', (C → AW d M h1 pc1 ls1 st1 o1 h') → (¬ C → AW d M h2 pc2 ls2 st2 o2 h') → AW d M h pc ls st o h') (kt : C → AX Q d M h1 pc1 ls1 st1 o1) (kf : ¬ C → AX Q d M h2 pc2 ls2 st2 o2) : AX Q d M h pc ls st o := AX.br f (Classical.em C) (fun a b => b a) kt kf
theorem AX.brP {C : Prop} (f : ∀ h', (¬ C → AW d M h1 pc1 ls1 st1 o1 h') → (C → AW d M h2 pc2 ls2 st2 o2 h') → AW d M h pc ls st o h') (kt : ¬ C → AX Q d M h1 pc1 ls1 st1 o1) (kf : C → AX Q d M h2 pc2 ls2 st2 o2) : AX Q d M h pc ls st o := AX.br f (Classical.em C).symm (fun a b => a b) kt kf
theorem AX.brF {x : Bool} (f : ∀ h', (x = false → AW d M h1 pc1 ls1 st1 o1 h') → (x = true → AW d M h2 pc2 ls2 st2 o2 h') → AW d M h pc ls st o h') (kt : x = false → AX Q d M h1 pc1 ls1 st1 o1) (kf : x = true → AX Q d M h2 pc2 ls2 st2 o2) : AX Q d M h pc ls st o := AX.br f (by cases x; exact Or.inl rfl; exact Or.inr rfl) (fun a b => Bool.noConfusion (a.symm.trans b)) kt kf
theorem AX.brT {x : Bool} (f : ∀ h', (x = true → AW d M h1 pc1 ls1 st1 o1 h') → (x = false → AW d M h2 pc2 ls2 st2 o2 h') → AW d M h pc ls st o h') (kt : x = true → AX Q d M h1 pc1 ls1 st1 o1) (kf : x = false → AX Q d M h2 pc2 ls2 st2 o2) : AX Q d M h pc ls st o := AX.br f (by cases x; exact Or.inr rfl; exact Or.inl rfl) (fun a b => Bool.noConfusion (a.symm.trans b)) kt kf
theorem RX.of {av : List Value} {r : Option Value} (hy : plainName M.1.cls = true) (hlen : (entL av).length ≤ M.2.2.1) (hls : entL av ++ List.replicate (M.2.2.1 - (entL av).length) none = ls) (k : AX Q d M h 0 ls [] (.inl r)) : RX Q d M av h r := by
  obtain ⟨h', q, w⟩ := k
  exact ⟨h', q, Run.of hy hlen hls w⟩
theorem RX.mono {Q2 : AH → Prop} {av : List Value} {r : Option Value} (f : ∀ h', Q h' → Q2 h') (k : RX Q d M av h r) : RX Q2 d M av h r := by
  obtain ⟨h', q, w⟩ := k
  exact ⟨h', f h' q, w⟩
theorem AX.lsE (e : ls = ls1) (k : AX Q d M h pc ls1 st o) : AX Q d M h pc ls st o := e ▸ k
theorem AX.stE (e : st = st1) (k : AX Q d M h pc ls st1 o) : AX Q d M h pc ls st o := e ▸ k
theorem AX.hpE (e : h = h1) (k : AX Q d M h1 pc ls st o) : AX Q d M h pc ls st o := e ▸ k
theorem AX.ooE (e : o = o1) (k : AX Q d M h pc ls st o1) : AX Q d M h pc ls st o := e ▸ k
theorem AX.fgE (k : Nat) (e : ls.set k none = ls2) (w : AX Q d M h pc ls2 st o) : AX Q d M h pc ls st o := AX.map (fun _ q => AW.fg k e q) w
end AXS
/-- the sums -/
def clipL (v : Int64) : Int64 := if 1000000 < v then 1000000 else if v < -1000000 then -1000000 else v
def twoL (o : Int32) (x y : Int64) : Int64 := if o = 3 then clipL (x + y) else if o = 4 then clipL (x - y) else if o = 5 then clipL (x * y) else if y = 0 then 0 else clipL (x / y)
def askB (o : Int32) (x y : Int64) : Bool := if o = 10 then decide (x < y) else if o = 11 then decide (x ≤ y) else if o = 12 then decide (y < x) else if o = 13 then decide (y ≤ x) else if o = 14 then decide (x = y) else !decide (x = y)
def divB (v w : Int64) : Bool := if v = 0 then decide (w = 0) else decide (w % v = 0)
def joinB (o : Int32) (p q : Bool) : Bool := if o = 21 then p && q else p || q
def absM (w : Int64) : Int64 := if w < 0 then -w else w
def digM (p w : Int64) : Int64 := if p < 0 then 0 else if 9 < p then 0 else iter (fun x => x / 10) (p.toInt.toNat) (absM w) % 10
