/-! BEGIN: the law from its entry on the machine, given that the numbered heap stands for the old cells (by hand) -/
set_option maxRecDepth 100000
theorem start_join {p : Program} {e : Env} {s : State} {m : MethodId} {below : List Frame} {meth : Method} {c : Code} {l : Launch} {b L : Nat} {xs : Nat → Int32} {E : EE} {g : Nat → Option AC} (hl : EL E = l) (hEB : EB E = s.heap.size) (h3 : Est E 500 = b) (C : Cx E 140 mL_law p s m #[Value.ref b] meth c 0) (hR : Rp E (h00 g) s.heap) (hn : L ≤ 384) (hB : BH (128, UU, g)) (h0 : ∃ c d, g 0 = some (.inr (4, [.null, .null, .null, c, d]))) (hg : g 500 = some (sc L xs)) (h5 : ∀ k, 512 ≤ k → g k = none) : W p l e room_1 s m #[Value.ref b] below meth c s.heap [] 0 0 (fun t => ∃ o, t.status = .running ∧ Ended t below o ∧ o = .returned (some (.int 1)) ∧ Framed s o t [] 1200128 5501098) (entryFrame m ([Value.ref b] : List Value).toArray 4) := by
  obtain ⟨h', ⟨q1, q2⟩, k⟩ := law_go (f := xs) hn hB h0 hg h5
  have hent := lv_entry ([.ref b]) (n := 4) (Nat.le_of_ble_eq_true rfl)
  rw [lg_entry_eq]
  generalize (lg_sl ([.ref b]) ++ List.replicate (4 - (lg_sl ([.ref b])).length) Slot.unset).toArray = A at hent ⊢
  have hent : lv_has A 4 [(0, .ref b)] := hent
  have hL : LR E A [some (.ref 500), none, none, none] := by
    refine ⟨hent.1, hent.2.1, fun k v hk => ?_⟩
    match k, hk with
    | 0, hk =>
      cases hk
      have q := hent.2.2 (0, .ref b) List.mem_cons_self
      have et : cv E (.ref 500) = .ref b := by
        show Value.ref (tr E 500) = _
        unfold tr
        rw [if_pos (by decide), h3]
      rw [et]
      exact q
    | 1, hk => cases hk
    | 2, hk => cases hk
    | 3, hk => cases hk
    | k + 4, hk => simp at hk
  have w := k.2.2.2 E p e s m #[Value.ref b] below meth c 0 0 s.heap [] A C (Nat.zero_le _) (Nat.zero_le _) va_S.rf hR hL
  rw [hl] at w
  have uu : UU = 18396 := rfl
  refine W.post (fun t ht => end_join hEB (by omega) (by omega) ht) (W.room ?_ ?_ ?_ ?_ w)
  · show 140 ≤ 8192; decide
  · show 200 * 140 ≤ 100000; decide
  · show h'.n - 0 ≤ 1200128; omega
  · show h'.u - 0 ≤ 5501098; omega
