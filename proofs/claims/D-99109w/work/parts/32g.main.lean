/-! MAIN: the descent and the yard go the same way -/
set_option maxRecDepth 100000
theorem tk_go0 {t : Nat → Int32} {n : Nat} {L0 : Lq} (hn : n ≤ 300) (h : ¬ (tkL t n L0 0).2.2.1 = 0) : 0 < cI (tkL t n L0 0).1 := by
  have e : tkL t n L0 0 = lexT (byteF t n) n (spn isWs (byteF t n) n 0) L0 := rfl
  have hp := spn_le (p := isWs) (B := byteF t n) (n := n) (k := 0) (by omega)
  obtain ⟨⟨k2, h4, h5, h7⟩, h6⟩ := lexT_at (t := t) (L := L0) hp
  rw [← e] at h5
  rw [h5, cI_nI (by omega)]
  generalize hq : spn isWs (byteF t n) n 0 = p at *
  by_cases q : p < n
  · have := h7 q
    omega
  · exfalso
    apply h
    rw [e]
    unfold lexT
    rw [if_pos (by omega)]
/-- no end ahead of token i -/
def gd (t : Nat → Int32) (n : Nat) (L0 : Lq) (i : Nat) : Prop := ∀ j, j < i → ¬ (tkL t n L0 j).2.2.1 = 0
theorem gd_s {t : Nat → Int32} {n : Nat} {L0 : Lq} {i : Nat} (h : gd t n L0 i) (z : ¬ (tkL t n L0 i).2.2.1 = 0) : gd t n L0 (i + 1) := fun j hj => by
  by_cases q : j = i
  · rw [q]; exact z
  · exact h j (by omega)
theorem gd_at {t : Nat → Int32} {n : Nat} {L0 : Lq} (hn : n ≤ 300) : ∀ i, gd t n L0 (i + 1) → i + 1 ≤ cI (tkL t n L0 i).1
  | 0, h => tk_go0 hn (h 0 (by omega))
  | i + 1, h => by
    have h1 := gd_at hn i (fun j hj => h j (by omega))
    have h2 := tk_go hn i (h (i + 1) (by omega))
    omega
theorem gd_le {t : Nat → Int32} {n : Nat} {L0 : Lq} (hn : n ≤ 300) {i : Nat} (h : gd t n L0 i) : i ≤ n := by
  cases i with
  | zero => omega
  | succ i =>
    have h1 := gd_at hn i h
    have h2 := (tk_L (t := t) (L0 := L0) hn i).2
    omega
theorem wd_tok {L : Lq} {x : Int64} (h : isWd L x = true) : L.2.2.1 = 2 := of_decide_eq_true (Bool.and_eq_true_iff.mp h).1
theorem nm_tok {B : Nat → Int32} {L : Lq} {p : Nat} (h : 0 ≤ nameF B L p) : L.2.2.1 = 2 := by
  unfold nameF at h
  by_cases q : L.2.2.1 = 2
  · exact q
  · rw [if_neg q] at h
    exact absurd h (by decide)
theorem cmp_or {B : Nat → Int32} {L : Lq} {p : Nat} : cmpF B L p = -1 ∨ (0 ≤ cmpF B L p ∧ rankF (cmpF B L p) = 4 ∧ ¬ cmpF B L p = 41 ∧ ¬ cmpF B L p = 40 ∧ ¬ cmpF B L p = 20 ∧ ¬ L.2.2.1 = 0) := by
  unfold cmpF
  by_cases h1 : L.2.2.1 = 60
  · rw [if_pos h1, h1]; exact Or.inr (by decide)
  rw [if_neg h1]
  by_cases h2 : L.2.2.1 = 4
  · rw [if_pos h2, h2]; exact Or.inr (by decide)
  rw [if_neg h2]
  by_cases h3 : L.2.2.1 = 62
  · rw [if_pos h3, h3]; exact Or.inr (by decide)
  rw [if_neg h3]
  by_cases h4 : L.2.2.1 = 5
  · rw [if_pos h4, h4]; exact Or.inr (by decide)
  rw [if_neg h4]
  by_cases h5 : L.2.2.1 = 61
  · rw [if_pos h5, h5]; exact Or.inr (by decide)
  rw [if_neg h5]
  by_cases h6 : L.2.2.1 = 35
  · rw [if_pos h6, h6]; exact Or.inr (by decide)
  rw [if_neg h6]
  by_cases h7 : isDiF B L p = true
  · rw [if_pos h7]
    have e2 : L.2.2.1 = 2 := by
      unfold isDiF at h7
      exact of_decide_eq_true (Bool.and_eq_true_iff.mp h7).1
    rw [e2]
    exact Or.inr (by decide)
  · rw [if_neg h7]; exact Or.inl rfl
def topLt (m : Int) (Q : List Int32) : Prop := ∀ q Q2, Q = q :: Q2 → (rankF q).toInt < m ∧ ¬ q = 41
theorem topLt.nil {m : Int} : topLt m [] := fun q Q2 h => by cases h
theorem topLt.cons {m : Int} {q : Int32} {Q : List Int32} (h : (rankF q).toInt < m) (h2 : ¬ q = 41) : topLt m (q :: Q) := fun r R e => by cases e; exact ⟨h, h2⟩
theorem topLt.mono {m k : Int} {Q : List Int32} (h : topLt m Q) (hm : m ≤ k) : topLt k Q := fun q Q2 e => ⟨by have := (h q Q2 e).1; omega, (h q Q2 e).2⟩
theorem topLt.stop {m : Int} {least : Int32} {Q : List Int32} {C : Cd} {o : Int32} (h : topLt m Q) (hm : m ≤ least.toInt) : settleL least Q C o = (Q, C, o) := settle_stop (fun q Q2 e z => by
  have h1 := (h q Q2 e).1
  rw [Int32.le_iff_toInt_le] at z
  omega)
def geR (m : Int) (Pn : List Int32) : Prop := ∀ q, q ∈ Pn → m ≤ (rankF q).toInt ∧ ¬ rankF q = 7 ∧ ¬ q = 20
theorem geR.nil {m : Int} : geR m [] := fun q h => by cases h
theorem geR.mono {m k : Int} {Pn : List Int32} (h : geR m Pn) (hk : k ≤ m) : geR k Pn := fun q hq => ⟨by have := (h q hq).1; omega, (h q hq).2⟩
theorem geR.snoc {m : Int} {Pn : List Int32} {b : Int32} (h : geR m Pn) (hb : m ≤ (rankF b).toInt) (h7 : ¬ rankF b = 7) (h20 : ¬ b = 20) : geR m (Pn ++ [b]) := fun q hq => by
  rcases List.mem_append.mp hq with z | z
  · exact h q z
  · rw [List.mem_singleton.mp z]; exact ⟨hb, h7, h20⟩
theorem geR.pend {m : Int} {least : Int32} {Pn Q : List Int32} {C : Cd} {o : Int32} (h : geR m Pn) (hm : least.toInt ≤ m) : settleL least (Pn ++ Q) C o = settleL least Q (C ++ em Pn) o := settle_pend (fun q hq => ⟨by have := (h q hq).1; rw [Int32.le_iff_toInt_le]; omega, (h q hq).2⟩)
theorem em_app {P Q : List Int32} : em (P ++ Q) = em P ++ em Q := List.map_append ..
theorem geR.shut {Pn Q : List Int32} (h : geR 1 Pn) (hq : shutL Q = false) : shutL (Pn ++ Q) = false := by
  rw [shut_app, hq, Bool.or_false]
  unfold shutL
  rw [List.any_eq_false]
  intro q hq2
  have h1 := (h q hq2).1
  intro z
  rw [of_decide_eq_true z] at h1
  exact absurd h1 (by decide)
theorem geR.cmp {Pn Q : List Int32} (h : geR 5 Pn) : comparedL (Pn ++ Q) = comparedL Q := by
  induction Pn with
  | nil => rfl
  | cons q Pn ih =>
    show (if 4 < rankF q then comparedL (Pn ++ Q) else decide (rankF q = 4)) = _
    have h1 := (h q List.mem_cons_self).1
    rw [if_pos (by rw [Int32.lt_iff_toInt_lt]; show (4 : Int) < _; omega)]
    exact ih (fun r hr => h r (List.mem_cons_of_mem _ hr))
theorem shut40 {Pn Q : List Int32} : shutL (Pn ++ 40 :: Q) = true := by
  have h : shutL (40 :: Q) = true := by
    show (decide ((40 : Int32) = 40) || shutL Q) = true
    rw [decide_eq_true rfl]
    rfl
  rw [shut_app, h, Bool.or_true]
/-- what waits of questions: not may be among it -/
def aR (m : Int) (Pn : List Int32) : Prop := ∀ q, q ∈ Pn → m ≤ (rankF q).toInt ∧ ¬ rankF q = 7
def c20 : List Int32 → Nat
  | [] => 0
  | q :: Q => if q = 20 then c20 Q + 1 else c20 Q
theorem c20_snoc {Pn : List Int32} {b : Int32} : c20 (Pn ++ [b]) = c20 Pn + (if b = 20 then 1 else 0) := by
  induction Pn with
  | nil => show (if b = 20 then 0 + 1 else 0) = _; simp [c20]
  | cons q Pn ih =>
    show (if q = 20 then c20 (Pn ++ [b]) + 1 else c20 (Pn ++ [b])) = (if q = 20 then c20 Pn + 1 else c20 Pn) + _
    rw [ih]
    split <;> omega
theorem c20_ge {m : Int} {Pn : List Int32} (h : geR m Pn) : c20 Pn = 0 := by
  induction Pn with
  | nil => rfl
  | cons q Pn ih =>
    show (if q = 20 then _ else c20 Pn) = 0
    rw [if_neg (h q List.mem_cons_self).2.2]
    exact ih (fun r hr => h r (List.mem_cons_of_mem _ hr))
theorem aR.of {m : Int} {Pn : List Int32} (h : geR m Pn) : aR m Pn := fun q hq => ⟨(h q hq).1, (h q hq).2.1⟩
theorem aR.mono {m k : Int} {Pn : List Int32} (h : aR m Pn) (hk : k ≤ m) : aR k Pn := fun q hq => ⟨by have := (h q hq).1; omega, (h q hq).2⟩
theorem aR.snoc {m : Int} {Pn : List Int32} {b : Int32} (h : aR m Pn) (hb : m ≤ (rankF b).toInt) (h7 : ¬ rankF b = 7) : aR m (Pn ++ [b]) := fun q hq => by
  rcases List.mem_append.mp hq with z | z
  · exact h q z
  · rw [List.mem_singleton.mp z]; exact ⟨hb, h7⟩
theorem aR.pend {m : Int} {least : Int32} {Q : List Int32} {k : Nat} (hm : least.toInt ≤ m) : ∀ {Pn : List Int32} {C : Cd}, aR m Pn → settleL least (Pn ++ Q) C (nI (k + c20 Pn)) = settleL least Q (C ++ em Pn) (nI k)
  | [], C, _ => by show settleL least Q C _ = settleL least Q (C ++ []) _; rw [List.append_nil]; rfl
  | q :: Pn, C, h => by
    have hq := h q List.mem_cons_self
    show (if least ≤ rankF q then settleL least (Pn ++ Q) (C ++ [(q, 0)]) (if rankF q = 7 ∨ q = 20 then nI (k + c20 (q :: Pn)) - 1 else nI (k + c20 (q :: Pn))) else (q :: (Pn ++ Q), C, nI (k + c20 (q :: Pn)))) = _
    rw [if_pos (by rw [Int32.le_iff_toInt_le]; have := hq.1; omega)]
    have e : (if rankF q = 7 ∨ q = 20 then nI (k + c20 (q :: Pn)) - 1 else nI (k + c20 (q :: Pn))) = nI (k + c20 Pn) := by
      by_cases z : q = 20
      · rw [if_pos (Or.inr z)]
        have e2 : c20 (q :: Pn) = c20 Pn + 1 := if_pos z
        rw [e2, nI_s1 (by omega)]
        rfl
      · rw [if_neg (fun w => w.elim hq.2 z)]
        have e2 : c20 (q :: Pn) = c20 Pn := if_neg z
        rw [e2]
    rw [e, aR.pend hm (fun r hr => h r (List.mem_cons_of_mem _ hr)), List.append_assoc]
    rfl
theorem nI_8 {k : Nat} (hk : k ≤ 8) : nI k = 8 ↔ k = 8 := by
  constructor
  · intro h
    have h1 := nI_t (k := k) (by omega)
    rw [h] at h1
    have h2 : (8 : Int32).toInt = 8 := rfl
    omega
  · intro h
    rw [h]; rfl
section RDU
variable {B : Nat → Int32} {K : Nat → Lq} {lets : Bool} {f i : Nat} {C : Cd} {o : Int32}
theorem rd_0 : rd B K lets (f + 1) 0 C i o = rdOne B K lets (rd B K lets f) i o := rfl
theorem rd_1 : rd B K lets (f + 1) 1 C i o = bd (rd B K lets f 0 [] i o) fun c j => rd B K lets f 2 c j o := rfl
theorem rd_2 : rd B K lets (f + 1) 2 C i o = (if (K i).2.2.1 = 42 then bd (rd B K lets f 0 [] (i + 1) o) fun c j => rd B K lets f 2 (C ++ c ++ [(5, 0)]) j o
    else if (K i).2.2.1 = 47 then bd (rd B K lets f 0 [] (i + 1) o) fun c j => rd B K lets f 2 (C ++ c ++ [(6, 0)]) j o else .inr (C, i)) := rfl
theorem rd_3 : rd B K lets (f + 1) 3 C i o = bd (rd B K lets f 1 [] i o) fun c j => rd B K lets f 4 c j o := rfl
theorem rd_4 : rd B K lets (f + 1) 4 C i o = (if (K i).2.2.1 = 43 then bd (rd B K lets f 1 [] (i + 1) o) fun c j => rd B K lets f 4 (C ++ c ++ [(3, 0)]) j o
    else if (K i).2.2.1 = 45 then bd (rd B K lets f 1 [] (i + 1) o) fun c j => rd B K lets f 4 (C ++ c ++ [(4, 0)]) j o else .inr (C, i)) := rfl
theorem rd_5 : rd B K lets (f + 1) 5 C i o = rdAsk B K (rd B K lets f) i o := rfl
theorem rd_6 : rd B K lets (f + 1) 6 C i o = bd (rd B K lets f 5 [] i o) fun c j => rd B K lets f 7 c j o := rfl
theorem rd_7 : rd B K lets (f + 1) 7 C i o = (if isWd (K i) (w3F 97 110 100) = true then bd (rd B K lets f 5 [] (i + 1) o) fun c j => rd B K lets f 7 (C ++ c ++ [(21, 0)]) j o else .inr (C, i)) := rfl
theorem rd_8 : rd B K lets (f + 1) 8 C i o = bd (rd B K lets f 6 [] i o) fun c j => rd B K lets f 9 c j o := rfl
theorem rd_9 : rd B K lets (f + 1) 9 C i o = (if isWd (K i) (w2F 111 114) = true then bd (rd B K lets f 6 [] (i + 1) o) fun c j => rd B K lets f 9 (C ++ c ++ [(22, 0)]) j o else .inr (C, i)) := rfl
end RDU
section MAIN
variable {s : Sg} {X : Nat → Int32} {base n : Nat} {L0 : Lq} {e lets : Bool} {oo : OR} {Qf : AH → Prop}
theorem en_stop {j : Nat} {C : Cd} {Q : List Int32} {o : Int32} (h : topLt 7 Q) (k : Go s X base n L0 e oo Qf j C Q o true) : En s X base n L0 e oo Qf j C Q o := fun Q1 C1 o1 hr => by
  rw [h.stop (least := 7) (by decide)] at hr
  cases hr
  exact ⟨fun _ => k, fun Q2 z => absurd rfl (h _ _ z).2⟩
theorem en_push {j : Nat} {C : Cd} {Q : List Int32} {k : Nat} {q : Int32} (hq : rankF q = 7) (h : En s X base n L0 e oo Qf j (C ++ [(q, 0)]) Q (nI k)) : En s X base n L0 e oo Qf j C (q :: Q) (nI (k + 1)) := fun Q1 C1 o1 hr => by
  refine h Q1 C1 o1 ?_
  rw [← hr]
  show _ = (if 7 ≤ rankF q then settleL 7 Q (C ++ [(q, 0)]) (if rankF q = 7 ∨ q = 20 then nI (k + 1) - 1 else nI (k + 1)) else (q :: Q, C, nI (k + 1)))
  rw [if_pos (by rw [hq]; decide), if_pos (Or.inl hq), nI_s1 (by omega)]
  rfl
theorem en_dig {j : Nat} {C : Cd} {Q : List Int32} {o : Int32} (ht : isWd (tkL (s.A 629) n L0 j) (w2F 111 102) = true → Go s X base n L0 e oo Qf (j + 1) C (7 :: Q) o false) (hf : isWd (tkL (s.A 629) n L0 j) (w2F 111 102) = false → Fl s X base n L0 oo Qf 1 j) : En s X base n L0 e oo Qf j C (41 :: Q) o := fun Q1 C1 o1 hr => by
  have e1 : settleL 7 (41 :: Q) C o = (41 :: Q, C, o) := if_neg (by decide)
  rw [e1] at hr
  cases hr
  exact ⟨fun z => absurd rfl (z _ _ rfl), fun Q2 z => by cases z; exact ⟨ht, hf⟩⟩
/-- the token at hand is no sign of a product, of a sum -/
def noMul (L : Lq) : Prop := ¬ L.2.2.1 = 42 ∧ ¬ L.2.2.1 = 47
def noAdd (L : Lq) : Prop := ¬ L.2.2.1 = 43 ∧ ¬ L.2.2.1 = 45
section CLAIMS
variable (s X base n L0 e lets oo Qf)
def M0 (f : Nat) : Prop := ∀ (i : Nat) (C : Cd) (Q : List Int32) (k : Nat), k ≤ 8 → gd (s.A 629) n L0 i → C.length + Q.length ≤ i → Q.length ≤ 6 * k + 5 → (isWd (tkL (s.A 629) n L0 i) (w3F 110 111 116) && askL e Q) = false →
  (∀ x, rd (byteF (s.A 629) n) (tkL (s.A 629) n L0) lets f 0 [] i (nI k) = .inl x → ¬ x.1 = 0 ∧ Fl s X base n L0 oo Qf x.1 x.2) →
  (∀ c j, rd (byteF (s.A 629) n) (tkL (s.A 629) n L0) lets f 0 [] i (nI k) = .inr (c, j) → gd (s.A 629) n L0 j → C.length + c.length + Q.length ≤ j → En s X base n L0 e oo Qf j (C ++ c) Q (nI k)) → Go s X base n L0 e oo Qf i C Q (nI k) false
def M1 (f : Nat) : Prop := ∀ (i : Nat) (C : Cd) (Q : List Int32) (k : Nat), k ≤ 8 → gd (s.A 629) n L0 i → C.length + Q.length ≤ i → Q.length ≤ 6 * k + 4 → (isWd (tkL (s.A 629) n L0 i) (w3F 110 111 116) && askL e Q) = false → topLt 6 Q →
  (∀ x, rd (byteF (s.A 629) n) (tkL (s.A 629) n L0) lets f 1 [] i (nI k) = .inl x → ¬ x.1 = 0 ∧ Fl s X base n L0 oo Qf x.1 x.2) →
  (∀ c j, rd (byteF (s.A 629) n) (tkL (s.A 629) n L0) lets f 1 [] i (nI k) = .inr (c, j) → gd (s.A 629) n L0 j → noMul (tkL (s.A 629) n L0 j) → ∀ D Pn, c = D ++ em Pn → geR 6 Pn → Pn.length ≤ 1 → C.length + D.length + Pn.length + Q.length ≤ j → Go s X base n L0 e oo Qf j (C ++ D) (Pn ++ Q) (nI k) true) → Go s X base n L0 e oo Qf i C Q (nI k) false
def M2 (f : Nat) : Prop := ∀ (i : Nat) (c0 D0 : Cd) (Pn0 : List Int32) (C : Cd) (Q : List Int32) (k : Nat), k ≤ 8 → gd (s.A 629) n L0 i → c0 = D0 ++ em Pn0 → geR 6 Pn0 → Pn0.length ≤ 1 → C.length + D0.length + Pn0.length + Q.length ≤ i → Q.length ≤ 6 * k + 4 → topLt 6 Q →
  (∀ x, rd (byteF (s.A 629) n) (tkL (s.A 629) n L0) lets f 2 c0 i (nI k) = .inl x → ¬ x.1 = 0 ∧ Fl s X base n L0 oo Qf x.1 x.2) →
  (∀ c j, rd (byteF (s.A 629) n) (tkL (s.A 629) n L0) lets f 2 c0 i (nI k) = .inr (c, j) → gd (s.A 629) n L0 j → noMul (tkL (s.A 629) n L0 j) → ∀ D Pn, c = D ++ em Pn → geR 6 Pn → Pn.length ≤ 1 → C.length + D.length + Pn.length + Q.length ≤ j → Go s X base n L0 e oo Qf j (C ++ D) (Pn ++ Q) (nI k) true) → Go s X base n L0 e oo Qf i (C ++ D0) (Pn0 ++ Q) (nI k) true
def M3 (f : Nat) : Prop := ∀ (i : Nat) (C : Cd) (Q : List Int32) (k : Nat), k ≤ 8 → gd (s.A 629) n L0 i → C.length + Q.length ≤ i → Q.length ≤ 6 * k + 3 → (isWd (tkL (s.A 629) n L0 i) (w3F 110 111 116) && askL e Q) = false → topLt 5 Q →
  (∀ x, rd (byteF (s.A 629) n) (tkL (s.A 629) n L0) lets f 3 [] i (nI k) = .inl x → ¬ x.1 = 0 ∧ Fl s X base n L0 oo Qf x.1 x.2) →
  (∀ c j, rd (byteF (s.A 629) n) (tkL (s.A 629) n L0) lets f 3 [] i (nI k) = .inr (c, j) → gd (s.A 629) n L0 j → noMul (tkL (s.A 629) n L0 j) → noAdd (tkL (s.A 629) n L0 j) → ∀ D Pn, c = D ++ em Pn → geR 5 Pn → Pn.length ≤ 2 → C.length + D.length + Pn.length + Q.length ≤ j → Go s X base n L0 e oo Qf j (C ++ D) (Pn ++ Q) (nI k) true) → Go s X base n L0 e oo Qf i C Q (nI k) false
def M4 (f : Nat) : Prop := ∀ (i : Nat) (c0 D0 : Cd) (Pn0 : List Int32) (C : Cd) (Q : List Int32) (k : Nat), k ≤ 8 → gd (s.A 629) n L0 i → noMul (tkL (s.A 629) n L0 i) → c0 = D0 ++ em Pn0 → geR 5 Pn0 → Pn0.length ≤ 2 → C.length + D0.length + Pn0.length + Q.length ≤ i → Q.length ≤ 6 * k + 3 → topLt 5 Q →
  (∀ x, rd (byteF (s.A 629) n) (tkL (s.A 629) n L0) lets f 4 c0 i (nI k) = .inl x → ¬ x.1 = 0 ∧ Fl s X base n L0 oo Qf x.1 x.2) →
  (∀ c j, rd (byteF (s.A 629) n) (tkL (s.A 629) n L0) lets f 4 c0 i (nI k) = .inr (c, j) → gd (s.A 629) n L0 j → noMul (tkL (s.A 629) n L0 j) → noAdd (tkL (s.A 629) n L0 j) → ∀ D Pn, c = D ++ em Pn → geR 5 Pn → Pn.length ≤ 2 → C.length + D.length + Pn.length + Q.length ≤ j → Go s X base n L0 e oo Qf j (C ++ D) (Pn ++ Q) (nI k) true) → Go s X base n L0 e oo Qf i (C ++ D0) (Pn0 ++ Q) (nI k) true
def okA (C D : Cd) (Pn Q : List Int32) (k j : Nat) : Prop := (Pn ++ Q).length ≤ 6 * (k + c20 Pn) + 5 ∧ k + c20 Pn ≤ 8 ∧ comparedL (Pn ++ Q) = true ∧ shutL (Pn ++ Q) = false ∧ C.length + D.length + Pn.length + Q.length ≤ j
def M5 (f : Nat) : Prop := ∀ (i : Nat) (C : Cd) (Q : List Int32) (k : Nat), k ≤ 8 → gd (s.A 629) n L0 i → C.length + Q.length ≤ i → Q.length ≤ 6 * k + 2 → askL true Q = true →
  (∀ x, rd (byteF (s.A 629) n) (tkL (s.A 629) n L0) lets f 5 [] i (nI k) = .inl x → ¬ x.1 = 0 ∧ Fl s X base n L0 oo Qf x.1 x.2) →
  (∀ c j, rd (byteF (s.A 629) n) (tkL (s.A 629) n L0) lets f 5 [] i (nI k) = .inr (c, j) → gd (s.A 629) n L0 j → noMul (tkL (s.A 629) n L0 j) → noAdd (tkL (s.A 629) n L0 j) → ∀ D Pn, c = D ++ em Pn → aR 3 Pn → okA C D Pn Q k j → Go s X base n L0 e oo Qf j (C ++ D) (Pn ++ Q) (nI (k + c20 Pn)) true) → Go s X base n L0 e oo Qf i C Q (nI k) false
def M6 (f : Nat) : Prop := ∀ (i : Nat) (C : Cd) (Q : List Int32), gd (s.A 629) n L0 i → C.length + Q.length ≤ i → (Q = [] ∨ Q = [22]) →
  (∀ x, rd (byteF (s.A 629) n) (tkL (s.A 629) n L0) lets f 6 [] i (nI 0) = .inl x → ¬ x.1 = 0 ∧ Fl s X base n L0 oo Qf x.1 x.2) →
  (∀ c j, rd (byteF (s.A 629) n) (tkL (s.A 629) n L0) lets f 6 [] i (nI 0) = .inr (c, j) → gd (s.A 629) n L0 j → noMul (tkL (s.A 629) n L0 j) → noAdd (tkL (s.A 629) n L0 j) → isWd (tkL (s.A 629) n L0 j) (w3F 97 110 100) = false → ∀ D Pn, c = D ++ em Pn → aR 2 Pn → okA C D Pn Q 0 j → Go s X base n L0 e oo Qf j (C ++ D) (Pn ++ Q) (nI (0 + c20 Pn)) true) → Go s X base n L0 e oo Qf i C Q (nI 0) false
def M7 (f : Nat) : Prop := ∀ (i : Nat) (c0 D0 : Cd) (Pn0 : List Int32) (C : Cd) (Q : List Int32), gd (s.A 629) n L0 i → noMul (tkL (s.A 629) n L0 i) → noAdd (tkL (s.A 629) n L0 i) → c0 = D0 ++ em Pn0 → aR 2 Pn0 → okA C D0 Pn0 Q 0 i → (Q = [] ∨ Q = [22]) →
  (∀ x, rd (byteF (s.A 629) n) (tkL (s.A 629) n L0) lets f 7 c0 i (nI 0) = .inl x → ¬ x.1 = 0 ∧ Fl s X base n L0 oo Qf x.1 x.2) →
  (∀ c j, rd (byteF (s.A 629) n) (tkL (s.A 629) n L0) lets f 7 c0 i (nI 0) = .inr (c, j) → gd (s.A 629) n L0 j → noMul (tkL (s.A 629) n L0 j) → noAdd (tkL (s.A 629) n L0 j) → isWd (tkL (s.A 629) n L0 j) (w3F 97 110 100) = false → ∀ D Pn, c = D ++ em Pn → aR 2 Pn → okA C D Pn Q 0 j → Go s X base n L0 e oo Qf j (C ++ D) (Pn ++ Q) (nI (0 + c20 Pn)) true) → Go s X base n L0 e oo Qf i (C ++ D0) (Pn0 ++ Q) (nI (0 + c20 Pn0)) true
def M8 (f : Nat) : Prop := ∀ (i : Nat) (C : Cd), gd (s.A 629) n L0 i → C.length ≤ i →
  (∀ x, rd (byteF (s.A 629) n) (tkL (s.A 629) n L0) lets f 8 [] i (nI 0) = .inl x → ¬ x.1 = 0 ∧ Fl s X base n L0 oo Qf x.1 x.2) →
  (∀ c j, rd (byteF (s.A 629) n) (tkL (s.A 629) n L0) lets f 8 [] i (nI 0) = .inr (c, j) → gd (s.A 629) n L0 j → noMul (tkL (s.A 629) n L0 j) → noAdd (tkL (s.A 629) n L0 j) → isWd (tkL (s.A 629) n L0 j) (w3F 97 110 100) = false → isWd (tkL (s.A 629) n L0 j) (w2F 111 114) = false → ∀ D Pn, c = D ++ em Pn → aR 1 Pn → okA C D Pn [] 0 j → Go s X base n L0 e oo Qf j (C ++ D) (Pn ++ []) (nI (0 + c20 Pn)) true) → Go s X base n L0 e oo Qf i C [] (nI 0) false
def M9 (f : Nat) : Prop := ∀ (i : Nat) (c0 D0 : Cd) (Pn0 : List Int32) (C : Cd), gd (s.A 629) n L0 i → noMul (tkL (s.A 629) n L0 i) → noAdd (tkL (s.A 629) n L0 i) → isWd (tkL (s.A 629) n L0 i) (w3F 97 110 100) = false → c0 = D0 ++ em Pn0 → aR 1 Pn0 → okA C D0 Pn0 [] 0 i →
  (∀ x, rd (byteF (s.A 629) n) (tkL (s.A 629) n L0) lets f 9 c0 i (nI 0) = .inl x → ¬ x.1 = 0 ∧ Fl s X base n L0 oo Qf x.1 x.2) →
  (∀ c j, rd (byteF (s.A 629) n) (tkL (s.A 629) n L0) lets f 9 c0 i (nI 0) = .inr (c, j) → gd (s.A 629) n L0 j → noMul (tkL (s.A 629) n L0 j) → noAdd (tkL (s.A 629) n L0 j) → isWd (tkL (s.A 629) n L0 j) (w3F 97 110 100) = false → isWd (tkL (s.A 629) n L0 j) (w2F 111 114) = false → ∀ D Pn, c = D ++ em Pn → aR 1 Pn → okA C D Pn [] 0 j → Go s X base n L0 e oo Qf j (C ++ D) (Pn ++ []) (nI (0 + c20 Pn)) true) → Go s X base n L0 e oo Qf i (C ++ D0) (Pn0 ++ []) (nI (0 + c20 Pn0)) true
end CLAIMS
abbrev nE {a : Int32} (h : ¬ a = 0) {b : Int32} (e : b = a) : ¬ b = 0 := fun z => h (e.symm.trans z)
theorem m0_s (cx : Cy s base n e lets) {f : Nat} (h0 : M0 s X base n L0 e lets oo Qf f) (h3 : M3 s X base n L0 e lets oo Qf f) : M0 s X base n L0 e lets oo Qf (f + 1) := by
  intro i C Q k hk hg hc hl ha hF hS
  have hi := gd_le cx.2.2.2.1 hg
  have h300 := cx.2.2.2.1
  rw [rd_0] at hF hS
  unfold rdOne at hF hS
  by_cases ht : (tkL (s.A 629) n L0 i).2.2.1 = 1
  · rw [if_pos ht] at hF hS
    by_cases hu : 9999 < (tkL (s.A 629) n L0 i).2.2.2.1
    · rw [if_pos hu] at hF
      exact y_num2 cx ht hu (hF _ rfl).2
    · rw [if_neg hu] at hS
      exact y_num cx (by omega) (by omega) ht hu (hS _ _ rfl (gd_s hg (by rw [ht]; decide)) (by simp only [List.length_cons, List.length_nil]; omega))
  rw [if_neg ht] at hF hS
  by_cases hm : 0 ≤ nmK (byteF (s.A 629) n) (tkL (s.A 629) n L0) i
  · rw [if_pos hm] at hF hS
    have h2 : (tkL (s.A 629) n L0 i).2.2.1 = 2 := nm_tok hm
    by_cases hs : nmK (byteF (s.A 629) n) (tkL (s.A 629) n L0) i = 7 ∧ lets = true
    · rw [if_pos hs] at hF
      exact y_name5 cx ht hs.1 hs.2 (hF _ rfl).2
    · rw [if_neg hs] at hS
      exact y_name cx (by omega) (by omega) ht hm hs (hS _ _ rfl (gd_s hg (by rw [h2]; decide)) (by simp only [List.length_cons, List.length_nil]; omega))
  rw [if_neg hm] at hF hS
  have hm1 : nmK (byteF (s.A 629) n) (tkL (s.A 629) n L0) i = -1 := (nm_or (B := byteF (s.A 629) n) (L := tkL (s.A 629) n L0 i) (p := cI (tkL (s.A 629) n L0 i).2.1)).resolve_left hm
  by_cases h40 : (tkL (s.A 629) n L0 i).2.2.1 = 40
  · rw [if_pos h40] at hF hS
    by_cases h8 : nI k = 8
    · rw [if_pos h8] at hF
      exact y_pf cx ht hm1 (by omega) h40 h8 (hF _ rfl).2
    · rw [if_neg h8] at hF hS
      have hk8 : ¬ k = 8 := fun z => h8 ((nI_8 hk).mpr z)
      rw [nI_succ' k] at hF hS
      refine y_pt cx ht hm1 (by omega) h40 h8 ?_
      rw [nI_succ' k]
      refine h3 (i + 1) C (40 :: Q) (k + 1) (by omega) (gd_s hg (by rw [h40]; decide)) (by simp only [List.length_cons]; omega) (by simp only [List.length_cons]; omega) ?_ (topLt.cons (by decide) (by decide)) (fun x hx => hF x (by rw [hx]; rfl)) ?_
      · have : askL e (40 :: Q) = false := by cases e <;> rfl
        rw [this, Bool.and_false]
      · intro c j hr hgj hnm hna D Pn hD hge hpl hlen
        rw [hr] at hF hS
        simp only [bd] at hF hS
        simp only [List.length_cons] at hlen
        have hij := gd_le h300 hgj
        have hbt : bwK s n L0 e j (Pn ++ 40 :: Q) < 0 := by
          unfold bwK btwF
          have hsh : shutL (Pn ++ 40 :: Q) = true := shut40
          rw [if_neg hna.1, if_neg hna.2, if_neg hnm.1, if_neg hnm.2, hsh, if_pos (by cases e <;> rfl)]
          decide
        have hsh : shutL (Pn ++ 40 :: Q) = true := shut40
        have hl2 : (Pn ++ 40 :: Q).length < 160 := by rw [List.length_append, List.length_cons]; omega
        have hl3 : (C ++ D).length + (Pn ++ 40 :: Q).length < 303 := by rw [List.length_append, List.length_append, List.length_cons]; omega
        by_cases h41 : (tkL (s.A 629) n L0 j).2.2.1 = 41
        · rw [if_pos h41] at hS
          have hst : settleL 1 (Pn ++ 40 :: Q) (C ++ D) (nI (k + 1)) = (40 :: Q, C ++ D ++ em Pn, nI (k + 1)) := by
            rw [hge.pend (by decide)]
            exact if_neg (by decide)
          refine y_close cx hl2 hl3 hbt hsh h41 hst ?_
          rw [nI_s1 (by omega), List.append_assoc, ← hD]
          exact hS _ _ rfl (gd_s hgj (by rw [h41]; decide)) (by rw [hD, List.length_append, em_len]; omega)
        · rw [if_neg h41] at hF
          exact y_end cx hl2 hl3 hbt (by rw [decide_eq_false h41, Bool.and_false]) (fun _ => (hF _ rfl).2) (fun z => by rw [hsh] at z; simp at z)
  rw [if_neg h40] at hF hS
  by_cases h45 : (tkL (s.A 629) n L0 i).2.2.1 = 45
  · rw [if_pos h45] at hF hS
    by_cases h8 : nI k = 8
    · rw [if_pos h8] at hF
      exact y_sf cx ht hm1 (by omega) h45 h8 (hF _ rfl).2
    · rw [if_neg h8] at hF hS
      have hk8 : ¬ k = 8 := fun z => h8 ((nI_8 hk).mpr z)
      rw [nI_succ' k] at hF hS
      refine y_st cx ht hm1 (by omega) h45 h8 ?_
      rw [nI_succ' k]
      refine h0 (i + 1) C (2 :: Q) (k + 1) (by omega) (gd_s hg (by rw [h45]; decide)) (by simp only [List.length_cons]; omega) (by simp only [List.length_cons]; omega) ?_ (fun x hx => hF x (by rw [hx]; rfl)) ?_
      · have : askL e (2 :: Q) = false := by cases e <;> rfl
        rw [this, Bool.and_false]
      · intro c j hr hgj hlen
        rw [hr] at hS
        simp only [bd] at hS
        simp only [List.length_cons] at hlen
        refine en_push (by decide) ?_
        rw [List.append_assoc]
        exact hS _ _ rfl hgj (by rw [List.length_append]; simp only [List.length_cons, List.length_nil]; omega)
  rw [if_neg h45] at hF hS
  by_cases hd : isWd (tkL (s.A 629) n L0 i) (w5F 100 105 103 105 116) = true
  · rw [if_pos hd] at hF hS
    by_cases h8 : nI k = 8
    · rw [if_pos h8] at hF
      exact y_df cx ht hm1 (by omega) h40 h45 hd h8 (hF _ rfl).2
    · rw [if_neg h8] at hF hS
      have hk8 : ¬ k = 8 := fun z => h8 ((nI_8 hk).mpr z)
      rw [nI_succ' k] at hF hS
      refine y_dt cx ht hm1 (by omega) h40 h45 hd h8 ?_
      rw [nI_succ' k]
      refine h0 (i + 1) C (41 :: Q) (k + 1) (by omega) (gd_s hg (by rw [wd_tok hd]; decide)) (by simp only [List.length_cons]; omega) (by simp only [List.length_cons]; omega) ?_ (fun x hx => hF x (by rw [hx]; rfl)) ?_
      · have : askL e (41 :: Q) = false := by cases e <;> rfl
        rw [this, Bool.and_false]
      · intro c j hr hgj hlen
        rw [hr] at hF hS
        simp only [bd] at hF hS
        simp only [List.length_cons] at hlen
        refine en_dig (fun hw => ?_) (fun hw => ?_)
        · rw [if_pos hw] at hF hS
          refine h0 (j + 1) (C ++ c) (7 :: Q) (k + 1) (by omega) (gd_s hgj (by rw [wd_tok hw]; decide)) (by rw [List.length_append]; simp only [List.length_cons]; omega) (by simp only [List.length_cons]; omega) ?_ (fun x hx => hF x (by rw [hx])) ?_
          · have : askL e (7 :: Q) = false := by cases e <;> rfl
            rw [this, Bool.and_false]
          · intro c2 j2 hr2 hgj2 hlen2
            rw [hr2] at hS
            rw [List.length_append] at hlen2
            simp only [List.length_cons] at hlen2
            refine en_push (by decide) ?_
            have := hS _ _ rfl hgj2 (by rw [List.length_append, List.length_append]; simp only [List.length_cons, List.length_nil]; omega)
            simp only [List.append_assoc] at this ⊢
            exact this
        · rw [if_neg (by rw [hw]; decide)] at hF
          exact (hF _ rfl).2
  rw [if_neg hd] at hF hS
  exact y_1 cx ht hm1 (by omega) h40 h45 (by cases q : isWd (tkL (s.A 629) n L0 i) (w5F 100 105 103 105 116); rfl; exact absurd q hd) ha (hF _ rfl).2
theorem m1_s {f : Nat} (h0 : M0 s X base n L0 e lets oo Qf f) (h2 : M2 s X base n L0 e lets oo Qf f) : M1 s X base n L0 e lets oo Qf (f + 1) := by
  intro i C Q k hk hg hc hl ha htp hF hS
  rw [rd_1] at hF hS
  refine h0 i C Q k hk hg hc (by omega) ha (fun x hx => hF x (by rw [hx]; rfl)) ?_
  intro c j hr hgj hlen
  rw [hr] at hF hS
  simp only [bd] at hF hS
  refine en_stop (htp.mono (by omega)) ?_
  exact h2 j c c [] C Q k hk hgj (List.append_nil c).symm geR.nil (by decide) (by simp only [List.length_nil]; omega) hl htp hF hS
theorem m2_s (cx : Cy s base n e lets) {f : Nat} (h0 : M0 s X base n L0 e lets oo Qf f) (h2 : M2 s X base n L0 e lets oo Qf f) : M2 s X base n L0 e lets oo Qf (f + 1) := by
  intro i c0 D0 Pn0 C Q k hk hg hc0 hge hpl hlen hl htp hF hS
  have h300 := cx.2.2.2.1
  have hi := gd_le h300 hg
  have hl2 : (Pn0 ++ Q).length < 160 := by rw [List.length_append]; omega
  have hl3 : (C ++ D0).length + (Pn0 ++ Q).length < 303 := by rw [List.length_append, List.length_append]; omega
  have key : ∀ b : Int32, rankF b = 6 → ¬ b = 41 → ¬ b = 20 → 0 ≤ b → (tkL (s.A 629) n L0 i).2.2.1 = 42 ∨ (tkL (s.A 629) n L0 i).2.2.1 = 47 → bwK s n L0 e i (Pn0 ++ Q) = b →
      (∀ x, (bd (rd (byteF (s.A 629) n) (tkL (s.A 629) n L0) lets f 0 [] (i + 1) (nI k)) fun c j => rd (byteF (s.A 629) n) (tkL (s.A 629) n L0) lets f 2 (c0 ++ c ++ [(b, 0)]) j (nI k)) = .inl x → ¬ x.1 = 0 ∧ Fl s X base n L0 oo Qf x.1 x.2) →
      (∀ c j, (bd (rd (byteF (s.A 629) n) (tkL (s.A 629) n L0) lets f 0 [] (i + 1) (nI k)) fun c j => rd (byteF (s.A 629) n) (tkL (s.A 629) n L0) lets f 2 (c0 ++ c ++ [(b, 0)]) j (nI k)) = .inr (c, j) → gd (s.A 629) n L0 j → noMul (tkL (s.A 629) n L0 j) → ∀ D Pn, c = D ++ em Pn → geR 6 Pn → Pn.length ≤ 1 → C.length + D.length + Pn.length + Q.length ≤ j → Go s X base n L0 e oo Qf j (C ++ D) (Pn ++ Q) (nI k) true) → Go s X base n L0 e oo Qf i (C ++ D0) (Pn0 ++ Q) (nI k) true := by
    intro b hb hb41 hb20 hb0 ht hbw hF hS
    have hst : settleL (if rankF b = 4 then 5 else rankF b) (Pn0 ++ Q) (C ++ D0) (nI k) = (Q, C ++ D0 ++ em Pn0, nI k) := by
      rw [hb, if_neg (by decide), hge.pend (by decide)]
      exact htp.stop (by decide)
    refine y_op cx hl2 hl3 b hb0 hbw hst ?_
    refine h0 (i + 1) (C ++ D0 ++ em Pn0) (b :: Q) k hk (gd_s hg (by rcases ht with h | h <;> rw [h] <;> decide)) (by rw [List.length_append, List.length_append, em_len, List.length_cons]; omega) (by rw [List.length_cons]; omega) ?_ (fun x hx => hF x (by rw [hx]; rfl)) ?_
    · have : askL e (b :: Q) = false := by
        unfold askL
        show (e && (inI (rankF b) 1 3 && _)) = false
        rw [hb]
        cases e <;> rfl
      rw [this, Bool.and_false]
    · intro c j hr hgj hlen2
      rw [hr] at hF hS
      simp only [bd] at hF hS
      rw [List.length_append, List.length_append, em_len, List.length_cons] at hlen2
      refine en_stop (topLt.cons (by rw [hb]; decide) hb41) ?_
      have := h2 j (c0 ++ c ++ [(b, 0)]) (D0 ++ em Pn0 ++ c) [b] C Q k hk hgj (by rw [hc0]; rfl) (geR.snoc geR.nil (by rw [hb]; decide) (by rw [hb]; decide) hb20) (Nat.le_refl _) (by rw [List.length_append, List.length_append, em_len]; simp only [List.length_cons, List.length_nil]; omega) hl htp hF hS
      rw [← List.append_assoc, ← List.append_assoc] at this
      exact this
  rw [rd_2] at hF hS
  by_cases h42 : (tkL (s.A 629) n L0 i).2.2.1 = 42
  · rw [if_pos h42] at hF hS
    exact key 5 (by decide) (by decide) (by decide) (by decide) (Or.inl h42) (by unfold bwK btwF; rw [h42]; rfl) hF hS
  rw [if_neg h42] at hF hS
  by_cases h47 : (tkL (s.A 629) n L0 i).2.2.1 = 47
  · rw [if_pos h47] at hF hS
    exact key 6 (by decide) (by decide) (by decide) (by decide) (Or.inr h47) (by unfold bwK btwF; rw [h47]; rfl) hF hS
  rw [if_neg h47] at hF hS
  exact hS c0 i rfl hg ⟨h42, h47⟩ D0 Pn0 hc0 hge hpl hlen
theorem m3_s {f : Nat} (h1 : M1 s X base n L0 e lets oo Qf f) (h4 : M4 s X base n L0 e lets oo Qf f) : M3 s X base n L0 e lets oo Qf (f + 1) := by
  intro i C Q k hk hg hc hl ha htp hF hS
  rw [rd_3] at hF hS
  refine h1 i C Q k hk hg hc (by omega) ha (htp.mono (by omega)) (fun x hx => hF x (by rw [hx]; rfl)) ?_
  intro c j hr hgj hnm D Pn hD hge hpl hlen
  rw [hr] at hF hS
  simp only [bd] at hF hS
  exact h4 j c D Pn C Q k hk hgj hnm hD (hge.mono (by omega)) (by omega) hlen hl htp hF hS
theorem m4_s (cx : Cy s base n e lets) {f : Nat} (h1 : M1 s X base n L0 e lets oo Qf f) (h4 : M4 s X base n L0 e lets oo Qf f) : M4 s X base n L0 e lets oo Qf (f + 1) := by
  intro i c0 D0 Pn0 C Q k hk hg hnm hc0 hge hpl hlen hl htp hF hS
  have h300 := cx.2.2.2.1
  have hi := gd_le h300 hg
  have hl2 : (Pn0 ++ Q).length < 160 := by rw [List.length_append]; omega
  have hl3 : (C ++ D0).length + (Pn0 ++ Q).length < 303 := by rw [List.length_append, List.length_append]; omega
  have key : ∀ b : Int32, rankF b = 5 → ¬ b = 41 → ¬ b = 20 → 0 ≤ b → (tkL (s.A 629) n L0 i).2.2.1 = 43 ∨ (tkL (s.A 629) n L0 i).2.2.1 = 45 → bwK s n L0 e i (Pn0 ++ Q) = b →
      (∀ x, (bd (rd (byteF (s.A 629) n) (tkL (s.A 629) n L0) lets f 1 [] (i + 1) (nI k)) fun c j => rd (byteF (s.A 629) n) (tkL (s.A 629) n L0) lets f 4 (c0 ++ c ++ [(b, 0)]) j (nI k)) = .inl x → ¬ x.1 = 0 ∧ Fl s X base n L0 oo Qf x.1 x.2) →
      (∀ c j, (bd (rd (byteF (s.A 629) n) (tkL (s.A 629) n L0) lets f 1 [] (i + 1) (nI k)) fun c j => rd (byteF (s.A 629) n) (tkL (s.A 629) n L0) lets f 4 (c0 ++ c ++ [(b, 0)]) j (nI k)) = .inr (c, j) → gd (s.A 629) n L0 j → noMul (tkL (s.A 629) n L0 j) → noAdd (tkL (s.A 629) n L0 j) → ∀ D Pn, c = D ++ em Pn → geR 5 Pn → Pn.length ≤ 2 → C.length + D.length + Pn.length + Q.length ≤ j → Go s X base n L0 e oo Qf j (C ++ D) (Pn ++ Q) (nI k) true) → Go s X base n L0 e oo Qf i (C ++ D0) (Pn0 ++ Q) (nI k) true := by
    intro b hb hb41 hb20 hb0 ht hbw hF hS
    have hst : settleL (if rankF b = 4 then 5 else rankF b) (Pn0 ++ Q) (C ++ D0) (nI k) = (Q, C ++ D0 ++ em Pn0, nI k) := by
      rw [hb, if_neg (by decide), hge.pend (by decide)]
      exact htp.stop (by decide)
    refine y_op cx hl2 hl3 b hb0 hbw hst ?_
    refine h1 (i + 1) (C ++ D0 ++ em Pn0) (b :: Q) k hk (gd_s hg (by rcases ht with h | h <;> rw [h] <;> decide)) (by rw [List.length_append, List.length_append, em_len, List.length_cons]; omega) (by rw [List.length_cons]; omega) ?_ (topLt.cons (by rw [hb]; decide) hb41) (fun x hx => hF x (by rw [hx]; rfl)) ?_
    · have : askL e (b :: Q) = false := by
        unfold askL
        show (e && (inI (rankF b) 1 3 && _)) = false
        rw [hb]
        cases e <;> rfl
      rw [this, Bool.and_false]
    · intro c j hr hgj hnmj D Pn hD hge2 hpl2 hlen2
      rw [hr] at hF hS
      simp only [bd] at hF hS
      rw [List.length_append, List.length_append, em_len, List.length_cons] at hlen2
      have := h4 j (c0 ++ c ++ [(b, 0)]) (D0 ++ em Pn0 ++ D) (Pn ++ [b]) C Q k hk hgj hnmj (by rw [hc0, hD, em_app]; simp only [List.append_assoc]; rfl) (geR.snoc (hge2.mono (by omega)) (by rw [hb]; decide) (by rw [hb]; decide) hb20) (by rw [List.length_append]; simp only [List.length_cons, List.length_nil]; omega) (by rw [List.length_append, List.length_append, List.length_append, em_len]; simp only [List.length_cons, List.length_nil]; omega) hl htp hF hS
      rw [← List.append_assoc, ← List.append_assoc, List.append_assoc Pn] at this
      exact this
  rw [rd_4] at hF hS
  by_cases h42 : (tkL (s.A 629) n L0 i).2.2.1 = 43
  · rw [if_pos h42] at hF hS
    exact key 3 (by decide) (by decide) (by decide) (by decide) (Or.inl h42) (by unfold bwK btwF; rw [h42]; rfl) hF hS
  rw [if_neg h42] at hF hS
  by_cases h47 : (tkL (s.A 629) n L0 i).2.2.1 = 45
  · rw [if_pos h47] at hF hS
    exact key 4 (by decide) (by decide) (by decide) (by decide) (Or.inr h47) (by unfold bwK btwF; rw [h47]; rfl) hF hS
  rw [if_neg h47] at hF hS
  exact hS c0 i rfl hg hnm ⟨h42, h47⟩ D0 Pn0 hc0 hge hpl hlen
theorem ask_sh {Q : List Int32} (h : askL true Q = true) : shutL Q = false := by
  have h2 := (Bool.and_eq_true_iff.mp (Bool.and_eq_true_iff.mp h).2).2
  cases q : shutL Q
  · rfl
  · rw [q] at h2; exact absurd h2 (by decide)
theorem ask_top {Q : List Int32} (h : askL true Q = true) : topLt 4 Q := by
  cases Q with
  | nil => exact topLt.nil
  | cons q Q =>
    have h2 : inI (rankF q) 1 3 = true := (Bool.and_eq_true_iff.mp (Bool.and_eq_true_iff.mp h).2).1
    have h3 := inI_iff.mp h2
    have e3 : (3 : Int32).toInt = 3 := rfl
    have e1 : (1 : Int32).toInt = 1 := rfl
    refine topLt.cons (by omega) (fun z => ?_)
    rw [z] at h3
    have e0 : (rankF 41).toInt = 0 := rfl
    omega
theorem ask_cmp {Q : List Int32} (h : askL true Q = true) : comparedL Q = false := by
  cases Q with
  | nil => rfl
  | cons q Q =>
    have h2 := (ask_top h q Q rfl).1
    show (if 4 < rankF q then _ else decide (rankF q = 4)) = false
    rw [if_neg (by rw [Int32.lt_iff_toInt_lt]; show ¬ (4 : Int) < _; omega), decide_eq_false]
    intro z
    rw [z] at h2
    exact absurd h2 (by decide)
theorem ask_cons {Q : List Int32} (h : askL true Q = true) {b : Int32} (hb : inI (rankF b) 1 3 = true) (h40 : ¬ b = 40) : askL true (b :: Q) = true := by
  have e : shutL (b :: Q) = false := by
    show (decide (b = 40) || shutL Q) = false
    rw [decide_eq_false h40, ask_sh h]
    rfl
  show (true && (inI (rankF b) 1 3 && !shutL (b :: Q))) = true
  rw [hb, e]
  rfl
theorem m5_s (cx : Cy s base n e lets) (he : e = true) {f : Nat} (h3 : M3 s X base n L0 e lets oo Qf f) (h5 : M5 s X base n L0 e lets oo Qf f) : M5 s X base n L0 e lets oo Qf (f + 1) := by
  intro i C Q k hk hg hc hl ha hF hS
  have h300 := cx.2.2.2.1
  have hi := gd_le h300 hg
  rw [rd_5] at hF hS
  unfold rdAsk at hF hS
  by_cases hn : isWd (tkL (s.A 629) n L0 i) (w3F 110 111 116) = true
  · rw [if_pos hn] at hF hS
    have htk := wd_tok hn
    have hnd : isWd (tkL (s.A 629) n L0 i) (w5F 100 105 103 105 116) = false := by
      cases q : isWd (tkL (s.A 629) n L0 i) (w5F 100 105 103 105 116)
      · rfl
      · have a1 := of_decide_eq_true (Bool.and_eq_true_iff.mp hn).2
        have a2 := of_decide_eq_true (Bool.and_eq_true_iff.mp q).2
        exact absurd (a1.symm.trans a2) (by decide)
    have hm1 : nmK (byteF (s.A 629) n) (tkL (s.A 629) n L0) i = -1 := by
      have a1 := of_decide_eq_true (Bool.and_eq_true_iff.mp hn).2
      unfold nmK nameF
      have a2 : isFrF (byteF (s.A 629) n) (tkL (s.A 629) n L0 i) (cI (tkL (s.A 629) n L0 i).2.1) = false := wd_7 (c := 7237492) h300 hn (by decide)
      simp only [a1, a2]
      rw [if_pos htk]
      decide
    have ht1 : ¬ (tkL (s.A 629) n L0 i).2.2.1 = 1 := by rw [htk]; decide
    have h40 : ¬ (tkL (s.A 629) n L0 i).2.2.1 = 40 := by rw [htk]; decide
    have h45 : ¬ (tkL (s.A 629) n L0 i).2.2.1 = 45 := by rw [htk]; decide
    by_cases h8 : nI k = 8
    · rw [if_pos h8] at hF
      exact y_qf cx ht1 hm1 (by omega) h40 h45 hnd hn (by rw [he]; exact ha) h8 (hF _ rfl).2
    · rw [if_neg h8] at hF hS
      have hk8 : ¬ k = 8 := fun z => h8 ((nI_8 hk).mpr z)
      rw [nI_succ' k] at hF hS
      refine y_qt cx ht1 hm1 (by omega) h40 h45 hnd hn (by rw [he]; exact ha) h8 ?_
      rw [nI_succ' k]
      refine h5 (i + 1) C (20 :: Q) (k + 1) (by omega) (gd_s hg (by rw [htk]; decide)) (by simp only [List.length_cons]; omega) (by simp only [List.length_cons]; omega) (ask_cons ha (by decide) (by decide)) (fun x hx => hF x (by rw [hx]; rfl)) ?_
      intro c j hr hgj hnm hna D Pn hD hge hok
      rw [hr] at hS
      simp only [bd] at hS
      have e1 : Pn ++ 20 :: Q = (Pn ++ [20]) ++ Q := by rw [List.append_assoc]; rfl
      have e2 : c20 (Pn ++ [20]) = c20 Pn + 1 := by rw [c20_snoc]; rfl
      obtain ⟨o1, o2, o3, o4, o5⟩ := hok
      rw [e1] at o1 o3 o4 ⊢
      have := hS _ _ rfl hgj hnm hna D (Pn ++ [20]) (by rw [hD, em_app, List.append_assoc]; rfl) (hge.snoc (by decide) (by decide)) ⟨by rw [e2]; omega, by rw [e2]; omega, o3, o4, by rw [List.length_append]; simp only [List.length_cons, List.length_nil] at o5 ⊢; omega⟩
      rw [e2] at this
      rw [show k + 1 + c20 Pn = k + (c20 Pn + 1) by omega]
      exact this
  · rw [if_neg hn] at hF hS
    have hn' : isWd (tkL (s.A 629) n L0 i) (w3F 110 111 116) = false := by
      cases q : isWd (tkL (s.A 629) n L0 i) (w3F 110 111 116)
      · rfl
      · exact absurd q hn
    refine h3 i C Q k hk hg hc (by omega) (by rw [hn']; rfl) ((ask_top ha).mono (by omega)) (fun x hx => hF x (by rw [hx]; rfl)) ?_
    intro c j hr hgj hnm hna D Pn hD hge hpl hlen
    rw [hr] at hF hS
    simp only [bd] at hF hS
    have hij := gd_le h300 hgj
    have hl2 : (Pn ++ Q).length < 160 := by rw [List.length_append]; omega
    have hl3 : (C ++ D).length + (Pn ++ Q).length < 303 := by rw [List.length_append, List.length_append]; omega
    have hsh : shutL (Pn ++ Q) = false := (hge.mono (by omega)).shut (ask_sh ha)
    have hcm : comparedL (Pn ++ Q) = false := hge.cmp.trans (ask_cmp ha)
    have hbt : bwK s n L0 e j (Pn ++ Q) = cpK (byteF (s.A 629) n) (tkL (s.A 629) n L0) j := by
      unfold bwK btwF
      rw [if_neg hna.1, if_neg hna.2, if_neg hnm.1, if_neg hnm.2, hsh, he, if_neg (by decide), if_pos hcm]
      rfl
    rcases cmp_or (B := byteF (s.A 629) n) (L := tkL (s.A 629) n L0 j) (p := cI (tkL (s.A 629) n L0 j).2.1) with hcp | ⟨b0, b4, b41, b40, b20, btk⟩
    · have hcp' : cpK (byteF (s.A 629) n) (tkL (s.A 629) n L0) j = -1 := hcp
      rw [if_pos hcp'] at hF
      refine y_end cx hl2 hl3 (by rw [hbt]; unfold cpK; rw [hcp]; decide) (by rw [hsh]; rfl) (fun _ => (hF _ rfl).2) (fun z => ?_)
      rw [hsh, he, hcm] at z
      simp at z
    · have hne : ¬ cpK (byteF (s.A 629) n) (tkL (s.A 629) n L0) j = -1 := fun z => by
        unfold cpK at z
        rw [z] at b0
        exact absurd b0 (by decide)
      rw [if_neg hne] at hF hS
      have b0' : 0 ≤ cpK (byteF (s.A 629) n) (tkL (s.A 629) n L0) j := b0
      have b4' : rankF (cpK (byteF (s.A 629) n) (tkL (s.A 629) n L0) j) = 4 := b4
      have b41' : ¬ cpK (byteF (s.A 629) n) (tkL (s.A 629) n L0) j = 41 := b41
      have b40' : ¬ cpK (byteF (s.A 629) n) (tkL (s.A 629) n L0) j = 40 := b40
      have b20' : ¬ cpK (byteF (s.A 629) n) (tkL (s.A 629) n L0) j = 20 := b20
      generalize cpK (byteF (s.A 629) n) (tkL (s.A 629) n L0) j = b at hbt hF hS b0' b4' b41' b40' b20'
      have hst : settleL (if rankF b = 4 then 5 else rankF b) (Pn ++ Q) (C ++ D) (nI k) = (Q, C ++ D ++ em Pn, nI k) := by
        rw [if_pos b4', hge.pend (by decide)]
        exact (ask_top ha).stop (by decide)
      refine y_op cx hl2 hl3 b b0' hbt hst ?_
      refine h3 (j + 1) (C ++ D ++ em Pn) (b :: Q) k hk (gd_s hgj btk) (by rw [List.length_append, List.length_append, em_len, List.length_cons]; omega) (by rw [List.length_cons]; omega) ?_ (topLt.cons (by rw [b4']; decide) b41') (fun x hx => hF x (by rw [hx])) ?_
      · have : askL e (b :: Q) = false := by
          unfold askL
          show (e && (inI (rankF b) 1 3 && _)) = false
          rw [b4']
          cases e <;> rfl
        rw [this, Bool.and_false]
      · intro c2 j2 hr2 hgj2 hnm2 hna2 D2 Pn2 hD2 hge2 hpl2 hlen2
        rw [hr2] at hS
        rw [List.length_append, List.length_append, em_len, List.length_cons] at hlen2
        have e1 : Pn2 ++ b :: Q = (Pn2 ++ [b]) ++ Q := by rw [List.append_assoc]; rfl
        have e2 : c20 (Pn2 ++ [b]) = 0 := by rw [c20_snoc, c20_ge hge2, if_neg b20']
        have hcm2 : comparedL (Pn2 ++ b :: Q) = true := by
          rw [hge2.cmp]
          show (if 4 < rankF b then _ else decide (rankF b = 4)) = true
          rw [b4', if_neg (by decide)]
          rfl
        have hsh2 : shutL (Pn2 ++ b :: Q) = false := (hge2.mono (by omega)).shut (by
          show (decide (b = 40) || shutL Q) = false
          rw [decide_eq_false b40', ask_sh ha]
          rfl)
        have := hS _ _ rfl hgj2 hnm2 hna2 (D ++ em Pn ++ D2) (Pn2 ++ [b]) (by rw [hD, hD2, em_app]; simp only [List.append_assoc]; rfl) (aR.snoc (aR.of (hge2.mono (by omega))) (by rw [b4']; decide) (by rw [b4']; decide)) ⟨by rw [e2, List.length_append, List.length_append]; simp only [List.length_cons, List.length_nil]; omega, by rw [e2]; omega, e1 ▸ hcm2, e1 ▸ hsh2, by rw [List.length_append, List.length_append, List.length_append, em_len]; simp only [List.length_cons, List.length_nil]; omega⟩
        rw [e2, ← e1, ← List.append_assoc, ← List.append_assoc] at this
        exact this
theorem q_ask {Q : List Int32} (h : Q = [] ∨ Q = [22]) : askL true Q = true := by rcases h with rfl | rfl <;> rfl
theorem q_len {Q : List Int32} (h : Q = [] ∨ Q = [22]) : Q.length ≤ 1 := by rcases h with rfl | rfl <;> decide
theorem q_top {Q : List Int32} (h : Q = [] ∨ Q = [22]) : topLt 2 Q := by
  rcases h with rfl | rfl
  · exact topLt.nil
  · exact topLt.cons (by decide) (by decide)
theorem m6_s {f : Nat} (h5 : M5 s X base n L0 e lets oo Qf f) (h7 : M7 s X base n L0 e lets oo Qf f) : M6 s X base n L0 e lets oo Qf (f + 1) := by
  intro i C Q hg hc hq hF hS
  rw [rd_6] at hF hS
  have := q_len hq
  refine h5 i C Q 0 (by omega) hg hc (by omega) (q_ask hq) (fun x hx => hF x (by rw [hx]; rfl)) ?_
  intro c j hr hgj hnm hna D Pn hD hge hok
  rw [hr] at hF hS
  simp only [bd] at hF hS
  exact h7 j c D Pn C Q hgj hnm hna hD (hge.mono (by omega)) hok hq hF hS
theorem bw_and (he : e = true) {i : Nat} {Q : List Int32} (hm : noMul (tkL (s.A 629) n L0 i)) (ha : noAdd (tkL (s.A 629) n L0 i)) (hs : shutL Q = false) (hc : comparedL Q = true) : bwK s n L0 e i Q = if isWd (tkL (s.A 629) n L0 i) (w3F 97 110 100) = true then 21 else if isWd (tkL (s.A 629) n L0 i) (w2F 111 114) = true then 22 else -1 := by
  unfold bwK btwF
  rw [if_neg ha.1, if_neg ha.2, if_neg hm.1, if_neg hm.2, hs, he, if_neg (by decide), hc, if_neg (by decide)]
theorem m7_s (cx : Cy s base n e lets) (he : e = true) {f : Nat} (h5 : M5 s X base n L0 e lets oo Qf f) (h7 : M7 s X base n L0 e lets oo Qf f) : M7 s X base n L0 e lets oo Qf (f + 1) := by
  intro i c0 D0 Pn0 C Q hg hnm hna hc0 hge hok hq hF hS
  have h300 := cx.2.2.2.1
  have hi := gd_le h300 hg
  obtain ⟨o1, o2, o3, o4, o5⟩ := hok
  have hql := q_len hq
  rw [rd_7] at hF hS
  cases hw : isWd (tkL (s.A 629) n L0 i) (w3F 97 110 100)
  · rw [hw, if_neg (by decide)] at hF hS
    exact hS c0 i rfl hg hnm hna hw D0 Pn0 hc0 hge ⟨o1, o2, o3, o4, o5⟩
  · rw [hw, if_pos rfl] at hF hS
    have hl2 : (Pn0 ++ Q).length < 160 := by omega
    have hl3 : (C ++ D0).length + (Pn0 ++ Q).length < 303 := by rw [List.length_append, List.length_append]; omega
    have hst : settleL (if rankF 21 = 4 then 5 else rankF 21) (Pn0 ++ Q) (C ++ D0) (nI (0 + c20 Pn0)) = (Q, C ++ D0 ++ em Pn0, nI 0) := by
      rw [if_neg (by decide), aR.pend (m := 2) (by decide) hge]
      exact (q_top hq).stop (by decide)
    refine y_op cx hl2 hl3 21 (by decide) (by rw [bw_and he hnm hna o4 o3, hw, if_pos rfl]) hst ?_
    refine h5 (i + 1) (C ++ D0 ++ em Pn0) (21 :: Q) 0 (by omega) (gd_s hg (by rw [wd_tok hw]; decide)) (by rw [List.length_append, List.length_append, em_len, List.length_cons]; omega) (by rw [List.length_cons]; omega) (ask_cons (q_ask hq) (by decide) (by decide)) (fun x hx => hF x (by rw [hx]; rfl)) ?_
    intro c j hr hgj hnmj hnaj D Pn hD hge2 hok2
    rw [hr] at hF hS
    simp only [bd] at hF hS
    obtain ⟨p1, p2, p3, p4, p5⟩ := hok2
    have e1 : Pn ++ 21 :: Q = (Pn ++ [21]) ++ Q := by rw [List.append_assoc]; rfl
    have e2 : c20 (Pn ++ [21]) = c20 Pn := by rw [c20_snoc]; rfl
    rw [List.length_append, List.length_append, em_len, List.length_cons] at p5
    rw [e1] at p1 p3 p4 ⊢
    have := h7 j (c0 ++ c ++ [(21, 0)]) (D0 ++ em Pn0 ++ D) (Pn ++ [21]) C Q hgj hnmj hnaj (by rw [hc0, hD, em_app]; simp only [List.append_assoc]; rfl) (aR.snoc (hge2.mono (by omega)) (by decide) (by decide)) ⟨by rw [e2]; exact p1, by rw [e2]; exact p2, p3, p4, by rw [List.length_append, List.length_append, List.length_append, em_len]; simp only [List.length_cons, List.length_nil]; omega⟩ hq hF hS
    rw [e2, ← List.append_assoc, ← List.append_assoc] at this
    exact this
theorem m8_s {f : Nat} (h6 : M6 s X base n L0 e lets oo Qf f) (h9 : M9 s X base n L0 e lets oo Qf f) : M8 s X base n L0 e lets oo Qf (f + 1) := by
  intro i C hg hc hF hS
  rw [rd_8] at hF hS
  refine h6 i C [] hg (by simp only [List.length_nil]; omega) (Or.inl rfl) (fun x hx => hF x (by rw [hx]; rfl)) ?_
  intro c j hr hgj hnm hna hw D Pn hD hge hok
  rw [hr] at hF hS
  simp only [bd] at hF hS
  exact h9 j c D Pn C hgj hnm hna hw hD (hge.mono (by omega)) hok hF hS
theorem m9_s (cx : Cy s base n e lets) (he : e = true) {f : Nat} (h6 : M6 s X base n L0 e lets oo Qf f) (h9 : M9 s X base n L0 e lets oo Qf f) : M9 s X base n L0 e lets oo Qf (f + 1) := by
  intro i c0 D0 Pn0 C hg hnm hna hwa hc0 hge hok hF hS
  have h300 := cx.2.2.2.1
  have hi := gd_le h300 hg
  obtain ⟨o1, o2, o3, o4, o5⟩ := hok
  rw [rd_9] at hF hS
  cases hw : isWd (tkL (s.A 629) n L0 i) (w2F 111 114)
  · rw [hw, if_neg (by decide)] at hF hS
    exact hS c0 i rfl hg hnm hna hwa hw D0 Pn0 hc0 hge ⟨o1, o2, o3, o4, o5⟩
  · rw [hw, if_pos rfl] at hF hS
    have hl2 : (Pn0 ++ ([] : List Int32)).length < 160 := by omega
    have hl3 : (C ++ D0).length + (Pn0 ++ ([] : List Int32)).length < 303 := by rw [List.length_append, List.length_append]; omega
    have hst : settleL (if rankF 22 = 4 then 5 else rankF 22) (Pn0 ++ []) (C ++ D0) (nI (0 + c20 Pn0)) = ([], C ++ D0 ++ em Pn0, nI 0) := by
      rw [if_neg (by decide), aR.pend (m := 1) (by decide) hge]
      rfl
    refine y_op cx hl2 hl3 22 (by decide) (by rw [bw_and he hnm hna o4 o3, hwa, if_neg (by decide), hw, if_pos rfl]) hst ?_
    simp only [List.length_nil] at o5
    refine h6 (i + 1) (C ++ D0 ++ em Pn0) [22] (gd_s hg (by rw [wd_tok hw]; decide)) (by rw [List.length_append, List.length_append, em_len]; simp only [List.length_cons, List.length_nil]; omega) (Or.inr rfl) (fun x hx => hF x (by rw [hx]; rfl)) ?_
    intro c j hr hgj hnmj hnaj hwj D Pn hD hge2 hok2
    rw [hr] at hF hS
    simp only [bd] at hF hS
    obtain ⟨p1, p2, p3, p4, p5⟩ := hok2
    have e1 : Pn ++ [22] = (Pn ++ [22]) ++ [] := (List.append_nil _).symm
    have e2 : c20 (Pn ++ [22]) = c20 Pn := by rw [c20_snoc]; rfl
    rw [List.length_append, List.length_append, em_len] at p5
    simp only [List.length_cons, List.length_nil] at p5
    rw [e1] at p1 p3 p4 ⊢
    have := h9 j (c0 ++ c ++ [(22, 0)]) (D0 ++ em Pn0 ++ D) (Pn ++ [22]) C hgj hnmj hnaj hwj (by rw [hc0, hD, em_app]; simp only [List.append_assoc]; rfl) (aR.snoc (hge2.mono (by omega)) (by decide) (by decide)) ⟨by rw [e2]; exact p1, by rw [e2]; exact p2, p3, p4, by rw [List.length_append, List.length_append, List.length_append, em_len]; simp only [List.length_cons, List.length_nil]; omega⟩ hF hS
    rw [e2, ← List.append_assoc, ← List.append_assoc] at this
    exact this
theorem m_sum (cx : Cy s base n e lets) : ∀ f, M0 s X base n L0 e lets oo Qf f ∧ M1 s X base n L0 e lets oo Qf f ∧ M2 s X base n L0 e lets oo Qf f ∧ M3 s X base n L0 e lets oo Qf f ∧ M4 s X base n L0 e lets oo Qf f
  | 0 => ⟨fun i C Q k _ _ _ _ _ hF _ => absurd rfl (hF _ rfl).1, fun i C Q k _ _ _ _ _ _ hF _ => absurd rfl (hF _ rfl).1, fun i c0 D0 Pn0 C Q k _ _ _ _ _ _ _ _ hF _ => absurd rfl (hF _ rfl).1, fun i C Q k _ _ _ _ _ _ hF _ => absurd rfl (hF _ rfl).1, fun i c0 D0 Pn0 C Q k _ _ _ _ _ _ _ _ _ hF _ => absurd rfl (hF _ rfl).1⟩
  | f + 1 => by
    obtain ⟨h0, h1, h2, h3, h4⟩ := m_sum cx f
    exact ⟨m0_s cx h0 h3, m1_s h0 h2, m2_s cx h0 h2, m3_s h1 h4, m4_s cx h1 h4⟩
theorem m_ask (cx : Cy s base n e lets) (he : e = true) : ∀ f, M5 s X base n L0 e lets oo Qf f ∧ M6 s X base n L0 e lets oo Qf f ∧ M7 s X base n L0 e lets oo Qf f ∧ M8 s X base n L0 e lets oo Qf f ∧ M9 s X base n L0 e lets oo Qf f
  | 0 => ⟨fun i C Q k _ _ _ _ _ hF _ => absurd rfl (hF _ rfl).1, fun i C Q _ _ _ hF _ => absurd rfl (hF _ rfl).1, fun i c0 D0 Pn0 C Q _ _ _ _ _ _ _ hF _ => absurd rfl (hF _ rfl).1, fun i C _ _ hF _ => absurd rfl (hF _ rfl).1, fun i c0 D0 Pn0 C _ _ _ _ _ _ _ hF _ => absurd rfl (hF _ rfl).1⟩
  | f + 1 => by
    obtain ⟨h5, h6, h7, h8, h9⟩ := m_ask cx he f
    exact ⟨m5_s cx he (m_sum cx f).2.2.2.1 h5, m6_s h5 h7, m7_s cx he h5 h7, m8_s h6 h9, m9_s cx he h6 h9⟩
/-- a sum as a whole -/
theorem y_sum (cx : Cy s base n e lets) (he : e = false) {f i : Nat} {C : Cd} (hg : gd (s.A 629) n L0 i) (hc : C.length ≤ i)
    (hF : ∀ x, rd (byteF (s.A 629) n) (tkL (s.A 629) n L0) lets f 3 [] i 0 = .inl x → ¬ x.1 = 0 ∧ Fl s X base n L0 oo Qf x.1 x.2)
    (hS : ∀ c j, rd (byteF (s.A 629) n) (tkL (s.A 629) n L0) lets f 3 [] i 0 = .inr (c, j) → gd (s.A 629) n L0 j → C.length + c.length ≤ j → oo = .inl (some (.int 0)) ∧ ∀ PA, Qf (hp (ps s (tkL (s.A 629) n L0 j) (gq X base (C ++ c) PA [] 0 true)))) : Go s X base n L0 e oo Qf i C [] 0 false := by
  refine (m_sum cx f).2.2.2.1 i C [] 0 (by omega) hg (by simp only [List.length_nil]; omega) (by simp only [List.length_nil]; omega) (by rw [he]; exact Bool.and_false _) topLt.nil hF ?_
  intro c j hr hgj hnm hna D Pn hD hge hpl hlen
  have h300 := cx.2.2.2.1
  have hij := gd_le h300 hgj
  simp only [List.length_nil] at hlen
  have hsh : shutL (Pn ++ []) = false := (hge.mono (by omega)).shut rfl
  refine y_end cx (by rw [List.length_append]; simp only [List.length_nil]; omega) (by rw [List.length_append, List.length_append]; simp only [List.length_nil]; omega) ?_ (by rw [hsh]; rfl) (fun z => by rw [hsh, he] at z; simp at z) (fun _ => ?_)
  · unfold bwK btwF
    rw [if_neg hna.1, if_neg hna.2, if_neg hnm.1, if_neg hnm.2, he, if_pos (Bool.false_and _)]
    decide
  · have hst : settleL 1 (Pn ++ []) (C ++ D) (nI 0) = ([], C ++ c, 0) := by
      rw [hge.pend (by decide), hD, ← List.append_assoc]
      rfl
    rw [hst]
    exact hS c j hr hgj (by rw [hD, List.length_append, em_len]; omega)
/-- a question as a whole -/
theorem y_ask (cx : Cy s base n e lets) (he : e = true) {f i : Nat} {C : Cd} (hg : gd (s.A 629) n L0 i) (hc : C.length ≤ i)
    (hF : ∀ x, rd (byteF (s.A 629) n) (tkL (s.A 629) n L0) lets f 8 [] i 0 = .inl x → ¬ x.1 = 0 ∧ Fl s X base n L0 oo Qf x.1 x.2)
    (hS : ∀ c j, rd (byteF (s.A 629) n) (tkL (s.A 629) n L0) lets f 8 [] i 0 = .inr (c, j) → gd (s.A 629) n L0 j → C.length + c.length ≤ j → oo = .inl (some (.int 0)) ∧ ∀ PA, Qf (hp (ps s (tkL (s.A 629) n L0 j) (gq X base (C ++ c) PA [] 0 true)))) : Go s X base n L0 e oo Qf i C [] 0 false := by
  refine (m_ask cx he f).2.2.2.1 i C hg hc hF ?_
  intro c j hr hgj hnm hna hwa hwo D Pn hD hge hok
  obtain ⟨o1, o2, o3, o4, o5⟩ := hok
  have h300 := cx.2.2.2.1
  have hij := gd_le h300 hgj
  simp only [List.length_nil] at o5
  refine y_end cx (by omega) (by rw [List.length_append, List.length_append]; simp only [List.length_nil]; omega) ?_ (by rw [o4]; rfl) (fun z => by rw [o4, o3, he] at z; exact absurd z (by decide)) (fun _ => ?_)
  · rw [bw_and he hnm hna o4 o3, hwa, hwo, if_neg (by decide), if_neg (by decide)]
    decide
  · have hst : settleL 1 (Pn ++ []) (C ++ D) (nI (0 + c20 Pn)) = ([], C ++ c, 0) := by
      rw [aR.pend (m := 1) (by decide) hge, hD, ← List.append_assoc]
      rfl
    rw [hst]
    exact hS c j hr hgj (by rw [hD, List.length_append, em_len]; omega)
end MAIN
