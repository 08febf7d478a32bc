/-! JOIN: from the law's walk over the numbered heap to the machine (by hand) -/
set_option maxRecDepth 100000
theorem rm_mono {s : State} {pl : Platform} {r r2 : Room} (hf : r.frames ≤ r2.frames) (hl : r.locals ≤ r2.locals) (hc : r.cells ≤ r2.cells) (hs : r.slots ≤ r2.slots) (h : s.hasRoom pl r2 = true) : s.hasRoom pl r = true := by
  simp only [State.hasRoom, Bool.and_eq_true, decide_eq_true_eq] at h ⊢
  obtain ⟨⟨⟨⟨y, a, b, c, d, e⟩, f⟩, g⟩, i⟩ := h
  exact ⟨⟨⟨⟨by omega, by omega, by omega, by omega, by omega, e⟩, by omega⟩, by omega⟩, i⟩
theorem W.room {p : Program} {l : Launch} {e : Env} {R R2 : Room} {s : State} {m : MethodId} {args : Array Value} {below : List Frame} {meth : Method} {c : Code} {H : Heap} {locs : List Loc} {cells slots : Nat} {Q : State → Prop} {g : JFrame} (hf : R.frames ≤ R2.frames) (hl : R.locals ≤ R2.locals) (hc : R.cells ≤ R2.cells) (hs : R.slots ≤ R2.slots) (k : W p l e R s m args below meth c H locs cells slots Q g) : W p l e R2 s m args below meth c H locs cells slots Q g := fun T hT X => k T hT { X with room := rm_mono hf hl hc hs X.room }
theorem W.post {p : Program} {l : Launch} {e : Env} {R : Room} {s : State} {m : MethodId} {args : Array Value} {below : List Frame} {meth : Method} {c : Code} {H : Heap} {locs : List Loc} {cells slots : Nat} {Q Q2 : State → Prop} {g : JFrame} (hQ : ∀ t, Q t → Q2 t) (k : W p l e R s m args below meth c H locs cells slots Q g) : W p l e R s m args below meth c H locs cells slots Q2 g := fun T hT X => by
  obtain ⟨t, a, b⟩ := k T hT X
  exact ⟨t, a, hQ t b⟩
theorem end_join {E : EE} {h' : AH} {below : List Frame} {args : Array Value} {s : State} {mc ms : Nat} {t : State} (hEB : EB E = s.heap.size) (hc : mc ≤ 1200128) (hs : ms ≤ 5501098) (h : MQ below (Qx E (some (.int 1)) h') args s mc ms (EA E) t) : ∃ o, t.status = .running ∧ Ended t below o ∧ o = .returned (some (.int 1)) ∧ Framed s o t [] 1200128 5501098 := by
  obtain ⟨o, h1, h2, ⟨h3, -⟩, L, ⟨f1, f2, f3⟩, hL⟩ := h
  have h3 : o = .returned (some (.int 1)) := h3
  refine ⟨o, h1, h2, h3, f1, f2, ?_⟩
  have hfr : ∀ x ∈ L, s.heap.size ≤ x.base := fun x hx => by
    have q : EB E ≤ x.base := hL x hx
    rw [hEB] at q
    exact q
  have f4 : s.sameButNew ({ t with vm := s.vm } : State) ([] ++ L) mc ms := f3
  have f5 := f4.drop_fresh hfr
  exact f5.mono hc hs
