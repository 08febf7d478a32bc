/-! PURE 3: places by numbers; blocks that are moved -/
set_option maxRecDepth 100000
theorem up_up {α : Type} {f : Nat → α} {k : Nat} {x y : α} : up (up f k x) k y = up f k y := by
  funext j
  unfold up
  by_cases h : j = k <;> simp [h]
theorem setA_setA {s : Sg} {k : Nat} {f g : Nat → Int32} : (s.setA k f).setA k g = s.setA k g := by
  show (up (up s.A k f) k g, s.2) = (up s.A k g, s.2)
  rw [up_up]
theorem setA_at {s : Sg} {k : Nat} {f : Nat → Int32} : (s.setA k f).A k = f := up_eq
theorem setA_ne {s : Sg} {k j : Nat} {f : Nat → Int32} (h : j ≠ k) : (s.setA k f).A j = s.A j := up_ne h
theorem setA_id {s : Sg} {k : Nat} : s.setA k (s.A k) = s := by
  show (up s.A k (s.A k), s.2) = s
  have e : up s.A k (s.A k) = s.A := by
    funext j
    by_cases h : j = k
    · rw [h, up_eq]
    · rw [up_ne h]
  rw [e]
  rfl
theorem in2 {n : Nat} (a b k : Nat) (h : a + b * k < n) (hn : n < 2147483648) : vp_in (nI a + nI b * nI k) n := by
  rw [nI_mul, nI_add]
  exact vp_in_nI h (by omega)
theorem at2 (a b k : Nat) (h : a + b * k < 2147483648) : cI (nI a + nI b * nI k) = a + b * k := by
  rw [nI_mul, nI_add, cI_nI h]
theorem in1 {n : Nat} (a k : Nat) (h : a + k < n) (hn : n < 2147483648) : vp_in (nI a + nI k) n := by
  rw [nI_add]
  exact vp_in_nI h (by omega)
theorem at1 (a k : Nat) (h : a + k < 2147483648) : cI (nI a + nI k) = a + k := by
  rw [nI_add, cI_nI h]
theorem in3 {n : Nat} (a b k c : Nat) (h : a + b * k + c < n) (hn : n < 2147483648) : vp_in (nI a + nI b * nI k + nI c) n := by
  rw [nI_mul, nI_add, nI_add]
  exact vp_in_nI h (by omega)
theorem at3 (a b k c : Nat) (h : a + b * k + c < 2147483648) : cI (nI a + nI b * nI k + nI c) = a + b * k + c := by
  rw [nI_mul, nI_add, nI_add, cI_nI h]
theorem in0 {n : Nat} (k : Nat) (h : k < n) (hn : n < 2147483648) : vp_in (nI k) n := vp_in_nI h (by omega)
/-- n values laid down from d on -/
def mv {α : Type} (b : Nat → α) (d : Nat) (src : Nat → α) (n : Nat) : Nat → α := fun j => if d ≤ j ∧ j < d + n then src (j - d) else b j
theorem mv_0 {α : Type} {b : Nat → α} {d : Nat} {src : Nat → α} : mv b d src 0 = b := by
  funext j
  unfold mv
  rw [if_neg (by omega)]
theorem mv_s {α : Type} {b : Nat → α} {d : Nat} {src : Nat → α} {n : Nat} : up (mv b d src n) (d + n) (src n) = mv b d src (n + 1) := by
  funext j
  unfold mv up
  by_cases h : j = d + n
  · rw [if_pos h, if_pos (by omega), h, Nat.add_sub_cancel_left]
  · rw [if_neg h]
    show (if d ≤ j ∧ j < d + n then src (j - d) else b j) = _
    by_cases h2 : d ≤ j ∧ j < d + n
    · rw [if_pos h2, if_pos (by omega)]
    · rw [if_neg h2, if_neg (by omega)]
theorem mv_out {α : Type} {b : Nat → α} {d : Nat} {src : Nat → α} {n j : Nat} (h : j < d ∨ d + n ≤ j) : mv b d src n j = b j := if_neg (by omega)
theorem mv_in {α : Type} {b : Nat → α} {d : Nat} {src : Nat → α} {n j : Nat} (h1 : d ≤ j) (h2 : j < d + n) : mv b d src n j = src (j - d) := if_pos ⟨h1, h2⟩
/-- set, and what is put to it step by step -/
def orAcc (x : Int32) (f : Nat → Int32) : Nat → Int32
  | 0 => x
  | k + 1 => orAcc x f k ||| f k
def iter {α : Type} (f : α → α) : Nat → α → α
  | 0, x => x
  | k + 1, x => f (iter f k x)
/-- gossip: how many; who, to whom -/
def Gw : Type := Int32 × (Nat → Int32) × (Nat → Int32)
def Gw.N (g : Gw) : Int32 := g.1
def Gw.n (g : Gw) : Nat := cI g.N
def Gw.a (g : Gw) : Nat → Int32 := g.2.1
def Gw.b (g : Gw) : Nat → Int32 := g.2.2
def Gw.ok (g : Gw) : Prop := 0 ≤ g.N.toInt ∧ g.N.toInt ≤ 8
theorem Gw.n8 {g : Gw} (hg : g.ok) : g.n ≤ 8 := by
  have := cI_of hg.1
  have := hg.2
  unfold Gw.n
  omega
theorem Gw.nN {g : Gw} (hg : g.ok) : nI g.n = g.N := nI_cI hg.1
def Gw.spread (g : Gw) (x : Int32) : Int32 := orAcc x (fun k => if hasI x (g.a k) then bit (g.b k) else 0) g.n
def Gw.knows (g : Gw) (v : Vw) (m : Nat) (h e : Int32) : Int32 := if v.hou h && v.hou e then srch (fun k => hasI (iter g.spread k (bit e)) h) nI (-1) (m - 0) 0 else -1
def Gw.never (g : Gw) (v : Vw) (m : Nat) (h : Int32) : Int32 := if v.hou h then (1 <<< (v.N &&& 31) - 1) &&& (iter g.spread m (bit h) ^^^ -1) else -1
def gwM (a : Nat → Int32) : Gw := (a 5, fun i => if i < cI (a 5) then a (92 + 2 * i) else 0, fun i => if i < cI (a 5) then a (92 + 2 * i + 1) else 0)
theorem gwM_a {a : Nat → Int32} {i : Nat} (h : i < (gwM a).n) : (gwM a).a i = a (92 + 2 * i) := if_pos h
theorem gwM_b {a : Nat → Int32} {i : Nat} (h : i < (gwM a).n) : (gwM a).b i = a (92 + 2 * i + 1) := if_pos h
/-- none together with another: the set of those -/
def Vw.aloneP (v : Vw) (k : Nat) (m : Nat) : Bool := v.her (nI k) && allUp (fun e => decide (nI e = nI k) || !v.her (nI e) || decide (v.sh (nI k) &&& v.sh (nI e) = 0)) m
def Vw.alone (v : Vw) : Int32 := orUp (fun k => if v.aloneP k v.n then bit (nI k) else 0) v.n
theorem aloneP_s {v : Vw} {k m : Nat} : v.aloneP k (m + 1) = (v.aloneP k m && (decide (nI m = nI k) || !v.her (nI m) || decide (v.sh (nI k) &&& v.sh (nI m) = 0))) := by
  unfold Vw.aloneP
  show (_ && (allUp _ m && _)) = _
  rw [Bool.and_assoc]
/-- bits, counted -/
def pcF : Nat → Nat → Nat
  | 0, _ => 0
  | f + 1, n => n % 2 + pcF f (n / 2)
def bN (x : Int32) : Nat := x.toBitVec.toNat
def pcN (x : Int32) : Nat := pcF 32 (bN x)
def bitsI (x : Int32) : Int32 := nI (pcN x)
theorem pcF_le : ∀ (f n : Nat), pcF f n ≤ f
  | 0, _ => Nat.le_refl _
  | f + 1, n => by
    have := pcF_le f (n / 2)
    show n % 2 + pcF f (n / 2) ≤ f + 1
    omega
theorem pcF_z : ∀ (f n : Nat), n < 2 ^ f → pcF f n = 0 → n = 0
  | 0, n, h, _ => by simp at h; exact h
  | f + 1, n, h, e => by
    have e' : n % 2 + pcF f (n / 2) = 0 := e
    have := pcF_z f (n / 2) (by rw [Nat.pow_succ] at h; omega) (by omega)
    omega
theorem and_half (a b : Nat) : (a &&& b) / 2 = a / 2 &&& b / 2 := by
  apply Nat.eq_of_testBit_eq
  intro i
  simp [Nat.testBit_div_two]
theorem and_low (a b : Nat) : (a &&& b) % 2 = if a % 2 = 1 ∧ b % 2 = 1 then 1 else 0 := by
  have h := Nat.testBit_and a b 0
  simp only [Nat.testBit_zero] at h
  have h1 : (decide ((a &&& b) % 2 = 1)) = (decide (a % 2 = 1) && decide (b % 2 = 1)) := h
  rcases Nat.mod_two_eq_zero_or_one (a &&& b) with e | e <;> rcases Nat.mod_two_eq_zero_or_one a with e1 | e1 <;> rcases Nat.mod_two_eq_zero_or_one b with e2 | e2 <;> simp [e, e1, e2] at h1 ⊢
theorem pc_and : ∀ (f n : Nat), 0 < n → n < 2 ^ f → pcF f (n &&& (n - 1)) + 1 = pcF f n
  | 0, n, h0, h => by simp at h; omega
  | f + 1, n, h0, h => by
    show (n &&& (n - 1)) % 2 + pcF f ((n &&& (n - 1)) / 2) + 1 = n % 2 + pcF f (n / 2)
    rw [and_low, and_half]
    rcases Nat.mod_two_eq_zero_or_one n with e | e
    · rw [if_neg (by omega), show (n - 1) / 2 = n / 2 - 1 by omega, e]
      have := pc_and f (n / 2) (by omega) (by rw [Nat.pow_succ] at h; omega)
      omega
    · rw [if_neg (by omega), show (n - 1) / 2 = n / 2 by omega, Nat.and_self, e]
      omega
theorem bN_lt (x : Int32) : bN x < 2 ^ 32 := x.toBitVec.isLt
theorem bN_0 {x : Int32} : bN x = 0 ↔ x = 0 := by
  constructor
  · intro h
    apply Int32.toBitVec_inj.mp
    apply BitVec.eq_of_toNat_eq
    exact h
  · rintro rfl; rfl
theorem bN_dec {x : Int32} (h : ¬ x = 0) : bN (x &&& (x - 1)) = bN x &&& (bN x - 1) := by
  have h0 : 0 < bN x := Nat.pos_of_ne_zero (fun q => h (bN_0.mp q))
  have hl := bN_lt x
  show (x &&& (x - 1)).toBitVec.toNat = _
  rw [Int32.toBitVec_and, BitVec.toNat_and, Int32.toBitVec_sub, BitVec.toNat_sub]
  congr 1
  show (2 ^ 32 - (1 : Int32).toBitVec.toNat + bN x) % 2 ^ 32 = bN x - 1
  rw [show (1 : Int32).toBitVec.toNat = 1 from rfl]
  omega
theorem pcN_dec {x : Int32} (h : ¬ x = 0) : pcN (x &&& (x - 1)) + 1 = pcN x := by
  unfold pcN
  rw [bN_dec h]
  exact pc_and 32 _ (Nat.pos_of_ne_zero (fun q => h (bN_0.mp q))) (bN_lt x)
theorem pcN_0 {x : Int32} : pcN x = 0 ↔ x = 0 := by
  constructor
  · intro h
    exact bN_0.mp (pcF_z 32 _ (bN_lt x) h)
  · rintro rfl; rfl
theorem pcN_le (x : Int32) : pcN x ≤ 32 := pcF_le _ _
def low (x : Int32) : Int32 := x &&& (x - 1)
theorem pcN_iter (x : Int32) : ∀ k, k ≤ pcN x → pcN (iter low k x) + k = pcN x
  | 0, _ => Nat.add_zero _
  | k + 1, h => by
    have h1 := pcN_iter x k (by omega)
    have h2 : ¬ iter low k x = 0 := fun q => by rw [q] at h1; rw [pcN_0.mpr rfl] at h1; omega
    have h3 := pcN_dec h2
    have h4 : pcN (iter low (k + 1) x) + 1 = pcN (iter low k x) := h3
    omega
/-- the model's draws, steps -/
def drawM (x : Int32) : Int32 := ((x.toInt64 * 359 + 239) % 30431).toInt32
def Vw.draws (v : Vw) (h : Int32) : Bool := v.her h && decide (bitsI (v.sh h) < 3)
def Vw.forgets (v : Vw) (dt h : Int32) : Bool := v.her h && (inI dt 0 19 && hasI (v.sh h) dt)
/-- a step laid down at x -/
def stepM (a : Nat → Int32) (x : Nat) : Nat → Int32 :=
  let a2 := up a x (a 0)
  let a3 := mv a2 (x + 1) (fun j => a (8 + j)) 3
  let a4 := mv a3 (x + 4) (fun j => a (12 + 8 * (j / 4) + j % 4)) 28
  mv a4 (x + 32) (fun j => a (2268 + j)) 40
def keepT (a : Nat → Int32) (c : Nat) : Nat → Int32 := up (stepM a (108 + 72 * c)) 3 (nI (c + 1))
def shiftM (a : Nat → Int32) : Nat → Int32 := up (mv a 108 (fun j => a (180 + j)) 2088) 3 29
def keepM (a : Nat → Int32) (c : Nat) : Nat → Int32 := if c = 30 then keepT (shiftM a) 29 else keepT a c
theorem gtM_n {a : Nat → Int32} {h k : Nat} (hh : h < 8) (hk : k < 8) : gtM a (nI h) (nI k) = a (12 + 8 * h + k) := by
  unfold gtM
  have e3 : cI (12 + 8 * nI h + nI k) = 12 + 8 * h + k := at3 12 8 h k (by omega)
  rw [e3]
def cutL (v : Int64) (lo hi : Int32) : Int32 := if v < lo.toInt64 then lo else if hi.toInt64 < v then hi else v.toInt32
def cutI (x lo hi : Int32) : Int32 := cutL x.toInt64 lo hi
def ptM (a : Nat → Int32) (h w v : Int32) : Nat → Int32 := up a (cI (12 + 8 * h + w)) v
/-- a page written -/
def pageM (a : Nat → Int32) (w : Nat) (h z : Int32) : Nat → Int32 := up (up a (2268 + w) (a 8 * 16 + h * 2 + z)) 10 (nI (w + 1))
def shiftB (a : Nat → Int32) : Nat → Int32 := up (mv a 2268 (fun j => a (2269 + j)) 39) 10 39
def writeM (a : Nat → Int32) (w : Nat) (h z : Int32) : Nat → Int32 := if w = 40 then pageM (shiftB a) 39 h z else pageM a w h z
def beginM (a : Nat → Int32) (h : Nat) : Nat → Int32 := up (mv a (12 + 8 * h) (fun j => a (12 + 8 * h + 4 + j)) 3) (12 + 8 * h + 3) 0
/-- the draws of a hat: what comes, the numbers after -/
def hatR (h : Int32) : Nat → (Nat → Int32) → Int32 × (Nat → Int32)
  | 0, a => (-1, a)
  | m + 1, a => if hasI (gtM (up a 9 (drawM (a 9))) h 0) (a 9 % 20) then hatR h m (up a 9 (drawM (a 9))) else (a 9 % 20, ptM (up a 9 (drawM (a 9))) h 0 (gtM (up a 9 (drawM (a 9))) h 0 ||| bit (a 9 % 20)))
def drawN (a : Nat → Int32) : Nat → Int32 := up a 9 (drawM (a 9))
theorem gt_keepR {a : Nat → Int32} {x y : Nat} {h : Nat} (hx : 108 ≤ x) (hy : y < 108) : stepM a x y = a y := by
  unfold stepM
  rw [mv_out (by omega), mv_out (by omega), mv_out (by omega), up_ne (by omega)]
/-- undo: the houses 0 .. m-1 back out of the step at x that had n houses -/
def undoH (x n : Nat) (b : Nat → Int32) : Nat → (Nat → Int32)
  | 0 => b
  | m + 1 => if m < n then mv (undoH x n b m) (12 + 8 * m) (fun j => b (x + 4 + 4 * m + j)) 4 else beginM (undoH x n b m) m
def undoM (a : Nat → Int32) (c n m : Nat) : Nat → Int32 :=
  mv (undoH (108 + 72 * c) n (mv (up a 3 (nI c)) 8 (fun j => a (108 + 72 * c + 1 + j)) 3) m) 2268 (fun j => a (108 + 72 * c + 32 + j)) 40
theorem beginM_out {a : Nat → Int32} {h j : Nat} (hj : j < 12 + 8 * h ∨ 12 + 8 * h + 4 ≤ j) : beginM a h j = a j := by
  unfold beginM
  rw [up_ne (by omega), mv_out (by omega)]
theorem undoH_out {x n : Nat} {b : Nat → Int32} : ∀ {m j : Nat}, j < 12 ∨ 12 + 8 * m ≤ j → undoH x n b m j = b j
  | 0, _, _ => rfl
  | m + 1, j, h => by
    unfold undoH
    split
    · rw [mv_out (by omega), undoH_out (by omega)]
    · rw [beginM_out (by omega), undoH_out (by omega)]
def telI (t : Int32) : Int32 := if t < 0 then 0 else bit t
/-- a house told -/
def houseM (a : Nat → Int32) (n : Nat) (d1 d2 d3 pu fr : Int32) : Nat → Int32 :=
  up (beginM (up (up (up a (12 + 8 * n + 4) (telI d1 ||| telI d2 ||| telI d3)) (12 + 8 * n + 5) pu) (12 + 8 * n + 6) fr) n) 0 (nI (n + 1))
def okD (d1 d2 d3 : Int32) : Bool := inI d1 (-1) 19 && inI d2 (-1) 19 && inI d3 (-1) 19 && !(decide (0 ≤ d1) && (decide (d1 = d2) || decide (d1 = d3))) && !(decide (0 ≤ d2) && decide (d2 = d3))
def okH (n d1 d2 d3 pu fr : Int32) : Bool := okD d1 d2 d3 && inI pu 0 9999 && inI fr 0 99 && !decide (n = 7)
def wedI (x y : Int32) : Int32 := if x &&& y = 0 then x ||| y else x &&& y
def marryM (b : Nat → Int32) (h e w : Int32) : Nat → Int32 :=
  let b1 := ptM b e 0 w
  let b2 := ptM b1 e 1 (cutI (gtM b1 e 1 + gtM b1 h 1) 0 9999)
  let b3 := ptM b2 e 2 (cutI (gtM b2 e 2 + gtM b2 h 2) 0 99)
  ptM b3 h 3 1
def fourM (t : Nat → Int32) (p : Nat) (v : Int32) : Nat → Int32 := mv t p (fun j => v >>> (nI (24 - 8 * j) &&& 31) &&& 255) 4
theorem setS_at {s : Sg} {k : Nat} {x : Int32} : (s.setS k x).S k = x := up_eq
theorem setS_ne {s : Sg} {k j : Nat} {x : Int32} (h : j ≠ k) : (s.setS k x).S j = s.S j := up_ne h
theorem setS_setS {s : Sg} {k : Nat} {x y : Int32} : (s.setS k x).setS k y = s.setS k y := by
  show (s.A, up (up s.S k x) k y, s.2.2) = (s.A, up s.S k y, s.2.2)
  rw [up_up]
theorem setS_id {s : Sg} {k : Nat} : s.setS k (s.S k) = s := by
  have e : up s.S k (s.S k) = s.S := by
    funext j
    by_cases h : j = k
    · rw [h, up_eq]
    · rw [up_ne h]
  show (s.A, up s.S k (s.S k), s.2.2) = s
  rw [e]
  rfl
theorem sh24 (k : Nat) (h : k ≤ 3) : (24 : Int32) - 8 * nI k = nI (24 - 8 * k) := by
  have : k = 0 ∨ k = 1 ∨ k = 2 ∨ k = 3 := by omega
  rcases this with rfl | rfl | rfl | rfl <;> decide
theorem sh8 {x : Int32} : 24 - 8 * x + (-8) = 24 - 8 * (x + 1) := by
  rw [Int32.mul_add, Int32.mul_one, Int32.sub_eq_add_neg, Int32.sub_eq_add_neg, Int32.neg_add, Int32.add_assoc, Int32.sub_eq_add_neg]
theorem SA_s {s : Sg} {k q : Nat} {m f : Nat → Int32} {x y : Int32} : (((s.setA k m).setS q x).setA k f).setS q y = (s.setA k f).setS q y := by
  show (up (up s.A k m) k f, up (up s.S q x) q y, s.2.2) = (up s.A k f, up s.S q y, s.2.2)
  rw [up_up, up_up]
theorem SA_S {s : Sg} {k q : Nat} {m f : Nat → Int32} {x : Int32} : (((s.setA k m).setS q x).setA k f).S q = x := up_eq
theorem SA_S1 {s : Sg} {k q : Nat} {m : Nat → Int32} {x : Int32} : ((s.setA k m).setS q x).S q = x := up_eq
theorem SA_A {s : Sg} {k q : Nat} {m : Nat → Int32} {x : Int32} : ((s.setA k m).setS q x).A k = m := up_eq
theorem SA_An {s : Sg} {k q j : Nat} {m : Nat → Int32} {x : Int32} (h : j ≠ k) : ((s.setA k m).setS q x).A j = s.A j := up_ne h
/-- five numbers fed -/
def feedM (t : Nat → Int32) (p : Nat) (a b c d e : Int32) : Nat → Int32 := fourM (fourM (fourM (fourM (fourM t p a) (p + 4) b) (p + 8) c) (p + 12) d) (p + 16) e
