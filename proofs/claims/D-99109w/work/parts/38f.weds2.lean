/-! WEDDINGS, the end: the model's answer is the system's (by hand) -/
set_option maxRecDepth 100000
section WED2
variable {v : Vw} {n : Nat}
theorem iter_in {α : Type} {f : α → α} : ∀ (k : Nat) (a : α), iter f (k + 1) a = iter f k (f a)
  | 0, _ => rfl
  | k + 1, a => congrArg f (iter_in k a)
theorem good_eq {st : Mf → Bool × Mf} {r : Bool × Mf} : ∀ (l : List Mf) (K : Mf), Good st (K :: l) r → (K :: l = (List.range (l.length + 1)).map (fun i => iter (fun M => (st M).2) i K)) ∧ (∀ i, i < l.length → (st (iter (fun M => (st M).2) i K)).1 = true) ∧ st (iter (fun M => (st M).2) l.length K) = r
  | [], K, h => by
    rcases h with ⟨-, h⟩ | ⟨K2, l2, h, -⟩
    · exact ⟨rfl, fun i hi => absurd hi (Nat.not_lt_zero i), h⟩
    · exact absurd h (by simp)
  | K2 :: l, K, h => by
    rcases h with ⟨h, -⟩ | ⟨K3, l3, h1, h2, h3⟩
    · exact absurd h (by simp)
    · cases h1
      obtain ⟨a1, a2, a3⟩ := good_eq l K2 h3
      have e2 : (st K).2 = K2 := by rw [h2]
      have ei : ∀ i, iter (fun M => (st M).2) (i + 1) K = iter (fun M => (st M).2) i K2 := fun i => by rw [iter_in]; show iter _ i (st K).2 = _; rw [e2]
      refine ⟨?_, fun i hi => ?_, ?_⟩
      · rw [show (K2 :: l).length + 1 = (l.length + 1) + 1 from rfl, List.range_succ_eq_map, List.map_cons, List.map_map]
        refine congrArg (K :: ·) (a1.trans (List.map_congr_left fun i _ => ?_))
        exact (ei i).symm
      · cases i with
        | zero => show (st K).1 = true; rw [h2]
        | succ i => rw [ei]; exact a2 i (by have : (K2 :: l).length = l.length + 1 := rfl; omega)
      · show st (iter _ (l.length + 1) K) = r
        rw [ei]; exact a3
theorem wedB_fd {M R : Mf} : ∀ i, wedB v M R i = fdM v v.n ((List.range i).map (rowW v M)) (-1, R)
  | 0 => rfl
  | i + 1 => by
    rw [List.range_succ, List.map_append, fd_app, ← wedB_fd i]
    rfl
def PbW (v : Vw) (n : Nat) (b : Int32 × Mf) : Prop := ¬ b.1 = -1 ∧ ∀ k, k < n → v.her (nI k) = false → b.2 k = -1
theorem fd_P (hn : n ≤ 7) : ∀ (l : List Mf) (b : Int32 × Mf), (∀ K, K ∈ l → PtM v n n K) → PbW v n b → PbW v n (fdM v n l b)
  | [], _, _, h => h
  | K :: l, b, hl, h => by
    refine fd_P hn l _ (fun J hJ => hl J (List.mem_cons_of_mem K hJ)) ?_
    by_cases z : b.1 < shF v K n
    · rw [if_pos z]
      refine ⟨?_, fun k hk h1 => ?_⟩
      · obtain ⟨x, e, hx⟩ := shF_n (v := v) (M := K) n
        show ¬ shF v K n = -1
        rw [e]; exact nI_nm1 (by omega)
      · show mv b.2 0 K 7 k = -1
        rw [mv_in (by omega) (by omega), Nat.sub_zero]
        rcases hl K List.mem_cons_self k hk with a | ⟨j, -, -, -, -, c, -⟩
        · exact a
        · rw [h1] at c; exact Bool.noConfusion c
    · rw [if_neg z]; exact h
theorem wed_all (hv : v.n = n) (hn : n ≤ 7) {left : Int32} (hl : ∀ k, tb left k = true ↔ k < n ∧ v.her (nI k) = true) (M0 R0 M R : Mf) : ∃ r, 1 ≤ r ∧ (∀ i, i + 1 < r → (nrF v v.n (rowW v (none7 M) i)).1 = true) ∧ (∀ i, i + 1 = r → (nrF v v.n (rowW v (none7 M) i)).1 = false) ∧ (wedL v 128 left 0 (-1, mv0 M0 (fun _ => -1) 7, R0)).1 = (wedB v (none7 M) R r).1 ∧ ∀ k, k < n → (if v.her (nI k) = true then (wedL v 128 left 0 (-1, mv0 M0 (fun _ => -1) 7, R0)).2.2 k else -1) = (wedB v (none7 M) R r).2 k := by
  have hM : ∀ k, k < 7 → none7 M k = -1 := fun k hk => mv_in (by omega) (by omega)
  have hP : PtM v n 0 (none7 M) := fun k hk => Or.inl (hM k (by omega))
  obtain ⟨⟨l, q1⟩, q2⟩ := Ls_good hv hn n 0 (none7 M) (Nat.zero_add n) hP
  have q3 := Ls_pt (v := v) hn n 0 (none7 M) (Nat.zero_add n) hP
  rw [q1] at q2 q3
  have es : (runM v n 0) = (nrF v n) := funext fun K => (nrF_all K).symm
  rw [es] at q2
  obtain ⟨g1, g2, g3⟩ := good_eq l _ q2
  subst hv
  have hs0 : shF v (none7 M) v.n = 0 := by
    have : ∀ m, m ≤ 7 → shF v (none7 M) m = 0 := by
      intro m
      induction m with
      | zero => intro _; rfl
      | succ m ih =>
        intro hm
        have e : shF v (none7 M) (m + 1) = shF v (none7 M) m + (if nI m < none7 M m then bitsI (v.sh (nI m) &&& v.sh (none7 M m)) else 0) := rfl
        rw [e, ih (by omega), hM m (by omega), if_neg (fun q => by
          have := Int32.lt_iff_toInt_lt.mp q
          rw [nI_t (by omega), tm1] at this
          omega)]
        rfl
    exact this v.n hn
  have f := wed_fold rfl hn v.n 0 (none7 M) left 0 (-1, mv0 M0 (fun _ => -1) 7, R0) (-1, R) 128 (Nat.zero_add _) hP (fun k => by
    rw [hl k]
    exact ⟨fun ⟨a, b⟩ => ⟨Nat.zero_le _, a, b, hM k (by omega)⟩, fun ⟨_, a, b, _⟩ => ⟨a, b⟩⟩) hs0.symm (fun k hk _ _ => by
    show mv0 M0 (fun _ => -1) 7 k = none7 M k
    rw [mv0_lt (by omega), hM k (by omega)]) ⟨rfl, Or.inl rfl⟩ (by omega)
  obtain ⟨⟨f1, f2⟩, -⟩ := f
  rw [q1] at f1 f2
  have eB : wedB v (none7 M) R (l.length + 1) = fdM v v.n (none7 M :: l) (-1, R) := by
    rw [wedB_fd, g1]
    rfl
  have hPb : PbW v v.n (fdM v v.n (none7 M :: l) (-1, R)) := by
    have lt1 : (-1 : Int32) < shF v (none7 M) v.n := by rw [hs0]; decide
    have e : fdM v v.n (none7 M :: l) (-1, R) = fdM v v.n l (shF v (none7 M) v.n, mv R 0 (none7 M) 7) := congrArg (fdM v v.n l) (if_pos lt1)
    rw [e]
    refine fd_P hn l _ (fun J hJ => q3 J (List.mem_cons_of_mem _ hJ)) ⟨?_, fun k hk _ => ?_⟩
    · show ¬ shF v (none7 M) v.n = -1
      rw [hs0]; decide
    · show mv R 0 (none7 M) 7 k = -1
      rw [mv_in (by omega) (by omega), Nat.sub_zero, hM k (by omega)]
  refine ⟨l.length + 1, by omega, fun i hi => g2 i (by omega), fun i hi => ?_, ?_, fun k hk => ?_⟩
  · have : i = l.length := by omega
    subst this
    show (nrF v v.n (iter (fun M => (nrF v v.n M).2) l.length (none7 M))).1 = false
    rw [g3]
  · rw [eB]; exact f1
  · rw [eB]
    cases z : v.her (nI k)
    · rw [if_neg Bool.false_ne_true]
      exact (hPb.2 k hk z).symm
    · rw [if_pos rfl]
      exact (f2.resolve_left hPb.1) k hk z
end WED2
section WED3
variable {N nt c e g : Nat} {a : Nat → Int32} {A : Nat → Nat → Int32}
theorem RelX.hn (h : RelX N nt c e g a A) : (vwM a).n = N := by
  obtain ⟨⟨⟨h1, h2, h3⟩, -⟩, -⟩ := h
  show cI (a 0) = N
  rw [h1, cI_nI (by omega)]
theorem tb_over {x : Int32} {i : Nat} (h : ¬ i < 32) : tb x i = false := BitVec.getLsbD_of_ge _ _ (by omega)
theorem weds_all (h : RelX N nt c e g a A) (M0 R0 M R : Mf) : ∃ r, 1 ≤ r ∧ (∀ i, i + 1 < r → (nrF (vwM a) (vwM a).n (rowW (vwM a) (none7 M) i)).1 = true) ∧ (∀ i, i + 1 = r → (nrF (vwM a) (vwM a).n (rowW (vwM a) (none7 M) i)).1 = false) ∧ ((vwS (A 514) (A 515)).wedW (A 515 2) M0 R0).1 = (wedB (vwM a) (none7 M) (none7 R) r).1 ∧ ∀ k, k < N → (if (vwS (A 514) (A 515)).her (nI k) = true then ((vwS (A 514) (A 515)).wedW (A 515 2) M0 R0).2.2 k else -1) = (wedB (vwM a) (none7 M) (none7 R) r).2 k := by
  have h7 := h.1.1.2.2
  have hh : ∀ k, tb ((vwS (A 514) (A 515)).thereI (A 515 2)) k = true ↔ k < N ∧ (vwM a).her (nI k) = true := fun k => by
    by_cases z : k < 32
    · rw [her_there h z]
      refine ⟨fun x => ⟨?_, x⟩, fun x => x.2⟩
      obtain ⟨j, hj, ej⟩ := hou_V h.1.1.1 h7 (Vw.her_hou x)
      have := (nI_eq (by omega) (by omega)).mp ej
      omega
    · rw [tb_over z]
      exact ⟨fun x => Bool.noConfusion x, fun x => absurd (show k < 32 by omega) z⟩
  obtain ⟨r, r1, r2, r3, r4, r5⟩ := wed_all (v := vwM a) h.hn h7 hh M0 R0 M (none7 R)
  refine ⟨r, r1, r2, r3, ?_, fun k hk => ?_⟩
  · rw [← r4]; unfold Vw.wedW; rw [h.vw]
  · rw [← r5 k hk]; unfold Vw.wedW; rw [h.vw]
end WED3
