/-! PENDING: what waits and is written later -/
set_option maxRecDepth 100000
def em (Pn : List Int32) : Cd := Pn.map (fun q => (q, 0))
theorem settle_pend {least : Int32} {Q : List Int32} {o : Int32} : ∀ {Pn : List Int32} {C : Cd}, (∀ q, q ∈ Pn → least ≤ rankF q ∧ ¬ rankF q = 7 ∧ ¬ q = 20) → settleL least (Pn ++ Q) C o = settleL least Q (C ++ em Pn) o
  | [], C, _ => by show settleL least Q C o = settleL least Q (C ++ []) o; rw [List.append_nil]
  | q :: Pn, C, h => by
    have hq := h q (List.mem_cons_self ..)
    show (if least ≤ rankF q then settleL least (Pn ++ Q) (C ++ [(q, 0)]) (if rankF q = 7 ∨ q = 20 then o - 1 else o) else (q :: (Pn ++ Q), C, o)) = _
    rw [if_pos hq.1, if_neg (fun z => by rcases z with z | z; exact hq.2.1 z; exact hq.2.2 z), settle_pend (fun r hr => h r (List.mem_cons_of_mem _ hr))]
    rw [List.append_assoc]
    rfl
theorem settle_stop {least : Int32} {Q : List Int32} {C : Cd} {o : Int32} (h : ∀ q Q2, Q = q :: Q2 → ¬ least ≤ rankF q) : settleL least Q C o = (Q, C, o) := by
  cases Q with
  | nil => rfl
  | cons q Q => exact if_neg (h q Q rfl)
theorem em_len {Pn : List Int32} : (em Pn).length = Pn.length := List.length_map ..
theorem shut_app {P Q : List Int32} : shutL (P ++ Q) = (shutL P || shutL Q) := List.any_append ..
