/-! THE LAW 2: its loop (printed by tools/xlaw2.py) -/
set_option maxRecDepth 100000
section LAW2
variable {Q : AH → Prop} {n : Nat} {f : Nat → Int32}
/-- one round -/
theorem law_one {s : Sg} {m : Nat} {o : OR} (h : Inv s) (hg : s.b.g 500 = some (sc n f)) (hm : m + 6 ≤ n) (hn : n ≤ 384) (kk : ∀ v, Nxt s v → AX Q 140 mL_law (hp v) 1591 [some (.ref 500), some (.ref 512), some (.ref 625), some (.int (nI (m)))] [] o) : AX Q 140 mL_law (hp s) 27 [some (.ref 500), some (.ref 512), some (.ref 625), some (.int (nI (m)))] [] o := by
  refine AX.map (fun _ k_ => AW.aload_n dL_law_27 rfl rfl k_) ?_
  refine AX.map (fun _ k_ => AW.iload_n dL_law_28 rfl rfl k_) ?_
  refine AX.map (fun _ k_ => AW.iald2 dL_law_29 rfl (g300 hg) (sc_0 (by omega) hn) (nI_cl (by omega)) rfl k_) ?_
  refine AX.map (fun _ k_ => AW.bipush (v := 63) dL_law_30 (by decide) rfl k_) ?_
  refine AX.map (fun _ k_ => AW.iand dL_law_32 rfl k_) ?_
  generalize f m &&& 63 = w
  by_cases e0 : w = 0
  · refine AX.map (fun _ k_ => AW.tableIn (off := 195) (tgt := 228) dL_law_33 (by rw [e0]; decide) (by rw [e0]; decide) (by rw [e0]; rfl) (by decide) k_) ?_
    exact lc_house h hg hm hn kk
  by_cases e1 : w = 1
  · refine AX.map (fun _ k_ => AW.tableIn (off := 258) (tgt := 291) dL_law_33 (by rw [e1]; decide) (by rw [e1]; decide) (by rw [e1]; rfl) (by decide) k_) ?_
    exact lc_feed h hg hm hn kk
  by_cases e2 : w = 2
  · refine AX.map (fun _ k_ => AW.tableIn (off := 321) (tgt := 354) dL_law_33 (by rw [e2]; decide) (by rw [e2]; decide) (by rw [e2]; rfl) (by decide) k_) ?_
    exact lc_end h hg hm hn kk
  by_cases e3 : w = 3
  · refine AX.map (fun _ k_ => AW.tableIn (off := 344) (tgt := 377) dL_law_33 (by rw [e3]; decide) (by rw [e3]; decide) (by rw [e3]; rfl) (by decide) k_) ?_
    exact lc_text h hg hm hn kk
  by_cases e4 : w = 4
  · refine AX.map (fun _ k_ => AW.tableIn (off := 357) (tgt := 390) dL_law_33 (by rw [e4]; decide) (by rw [e4]; decide) (by rw [e4]; rfl) (by decide) k_) ?_
    exact lc_fault h hg hm hn kk
  by_cases e5 : w = 5
  · refine AX.map (fun _ k_ => AW.tableIn (off := 380) (tgt := 413) dL_law_33 (by rw [e5]; decide) (by rw [e5]; decide) (by rw [e5]; rfl) (by decide) k_) ?_
    exact lc_by h hg hm hn kk
  by_cases e6 : w = 6
  · refine AX.map (fun _ k_ => AW.tableIn (off := 403) (tgt := 436) dL_law_33 (by rw [e6]; decide) (by rw [e6]; decide) (by rw [e6]; rfl) (by decide) k_) ?_
    exact lc_knock h hg hm hn kk
  by_cases e7 : w = 7
  · refine AX.map (fun _ k_ => AW.tableIn (off := 426) (tgt := 459) dL_law_33 (by rw [e7]; decide) (by rw [e7]; decide) (by rw [e7]; rfl) (by decide) k_) ?_
    exact lc_marry h hg hm hn kk
  by_cases e8 : w = 8
  · refine AX.map (fun _ k_ => AW.tableIn (off := 459) (tgt := 492) dL_law_33 (by rw [e8]; decide) (by rw [e8]; decide) (by rw [e8]; rfl) (by decide) k_) ?_
    exact lc_hat h hg hm hn kk
  by_cases e9 : w = 9
  · refine AX.map (fun _ k_ => AW.tableIn (off := 482) (tgt := 515) dL_law_33 (by rw [e9]; decide) (by rw [e9]; decide) (by rw [e9]; rfl) (by decide) k_) ?_
    exact lc_forget h hg hm hn kk
  by_cases e10 : w = 10
  · refine AX.map (fun _ k_ => AW.tableIn (off := 515) (tgt := 548) dL_law_33 (by rw [e10]; decide) (by rw [e10]; decide) (by rw [e10]; rfl) (by decide) k_) ?_
    exact lc_day h hg hm hn kk
  by_cases e11 : w = 11
  · refine AX.map (fun _ k_ => AW.tableIn (off := 538) (tgt := 571) dL_law_33 (by rw [e11]; decide) (by rw [e11]; decide) (by rw [e11]; rfl) (by decide) k_) ?_
    exact lc_played h hg hm hn kk
  by_cases e12 : w = 12
  · refine AX.map (fun _ k_ => AW.tableIn (off := 561) (tgt := 594) dL_law_33 (by rw [e12]; decide) (by rw [e12]; decide) (by rw [e12]; rfl) (by decide) k_) ?_
    exact lc_years h hg hm hn kk
  by_cases e13 : w = 13
  · refine AX.map (fun _ k_ => AW.tableIn (off := 594) (tgt := 627) dL_law_33 (by rw [e13]; decide) (by rw [e13]; decide) (by rw [e13]; rfl) (by decide) k_) ?_
    exact lc_undo h hg hm hn kk
  by_cases e14 : w = 14
  · refine AX.map (fun _ k_ => AW.tableIn (off := 607) (tgt := 640) dL_law_33 (by rw [e14]; decide) (by rw [e14]; decide) (by rw [e14]; rfl) (by decide) k_) ?_
    exact lc_of h hg hm hn kk
  by_cases e15 : w = 15
  · refine AX.map (fun _ k_ => AW.tableIn (off := 640) (tgt := 673) dL_law_33 (by rw [e15]; decide) (by rw [e15]; decide) (by rw [e15]; rfl) (by decide) k_) ?_
    exact lc_is h hg hm hn kk
  by_cases e16 : w = 16
  · refine AX.map (fun _ k_ => AW.tableIn (off := 663) (tgt := 696) dL_law_33 (by rw [e16]; decide) (by rw [e16]; decide) (by rw [e16]; rfl) (by decide) k_) ?_
    exact lc_book h hg hm hn kk
  by_cases e17 : w = 17
  · refine AX.map (fun _ k_ => AW.tableIn (off := 696) (tgt := 729) dL_law_33 (by rw [e17]; decide) (by rw [e17]; decide) (by rw [e17]; rfl) (by decide) k_) ?_
    exact lc_foretold h hg hm hn kk
  by_cases e18 : w = 18
  · refine AX.map (fun _ k_ => AW.tableIn (off := 729) (tgt := 762) dL_law_33 (by rw [e18]; decide) (by rw [e18]; decide) (by rw [e18]; rfl) (by decide) k_) ?_
    exact lc_indoors h hg hm hn kk
  by_cases e19 : w = 19
  · refine AX.map (fun _ k_ => AW.tableIn (off := 752) (tgt := 785) dL_law_33 (by rw [e19]; decide) (by rw [e19]; decide) (by rw [e19]; rfl) (by decide) k_) ?_
    by_cases z : f (m + 1) = 0
    · exact lc_crowded_f h hg hm hn z kk
    · exact lc_crowded_t h hg hm hn z kk
  by_cases e20 : w = 20
  · refine AX.map (fun _ k_ => AW.tableIn (off := 791) (tgt := 824) dL_law_33 (by rw [e20]; decide) (by rw [e20]; decide) (by rw [e20]; rfl) (by decide) k_) ?_
    by_cases z : f (m + 1) = 0
    · exact lc_feast_f h hg hm hn z kk
    · exact lc_feast_t h hg hm hn z kk
  by_cases e21 : w = 21
  · refine AX.map (fun _ k_ => AW.tableIn (off := 830) (tgt := 863) dL_law_33 (by rw [e21]; decide) (by rw [e21]; decide) (by rw [e21]; rfl) (by decide) k_) ?_
    exact lc_alone h hg hm hn kk
  by_cases e22 : w = 22
  · refine AX.map (fun _ k_ => AW.tableIn (off := 843) (tgt := 876) dL_law_33 (by rw [e22]; decide) (by rw [e22]; decide) (by rw [e22]; rfl) (by decide) k_) ?_
    exact lc_nobodys h hg hm hn kk
  by_cases e23 : w = 23
  · refine AX.map (fun _ k_ => AW.tableIn (off := 856) (tgt := 889) dL_law_33 (by rw [e23]; decide) (by rw [e23]; decide) (by rw [e23]; rfl) (by decide) k_) ?_
    exact lc_poorest h hg hm hn kk
  by_cases e24 : w = 24
  · refine AX.map (fun _ k_ => AW.tableIn (off := 879) (tgt := 912) dL_law_33 (by rw [e24]; decide) (by rw [e24]; decide) (by rw [e24]; rfl) (by decide) k_) ?_
    by_cases z : f (m + 3) = 0
    · exact lc_seen_f h hg hm hn z kk
    · exact lc_seen_t h hg hm hn z kk
  by_cases e25 : w = 25
  · refine AX.map (fun _ k_ => AW.tableIn (off := 938) (tgt := 971) dL_law_33 (by rw [e25]; decide) (by rw [e25]; decide) (by rw [e25]; rfl) (by decide) k_) ?_
    by_cases z : f (m + 3) = 0
    · exact lc_sets_f h hg hm hn z kk
    · exact lc_sets_t h hg hm hn z kk
  by_cases e26 : w = 26
  · refine AX.map (fun _ k_ => AW.tableIn (off := 997) (tgt := 1030) dL_law_33 (by rw [e26]; decide) (by rw [e26]; decide) (by rw [e26]; rfl) (by decide) k_) ?_
    by_cases z : f (m + 4) = 0
    · exact lc_odds_f h hg hm hn z kk
    · exact lc_odds_t h hg hm hn z kk
  by_cases e27 : w = 27
  · refine AX.map (fun _ k_ => AW.tableIn (off := 1066) (tgt := 1099) dL_law_33 (by rw [e27]; decide) (by rw [e27]; decide) (by rw [e27]; rfl) (by decide) k_) ?_
    exact lc_nextKnock h hg hm hn kk
  by_cases e28 : w = 28
  · refine AX.map (fun _ k_ => AW.tableIn (off := 1099) (tgt := 1132) dL_law_33 (by rw [e28]; decide) (by rw [e28]; decide) (by rw [e28]; rfl) (by decide) k_) ?_
    by_cases z : f (m + 3) = 0
    · exact lc_thieves_f h hg hm hn z kk
    · exact lc_thieves_t h hg hm hn z kk
  by_cases e29 : w = 29
  · refine AX.map (fun _ k_ => AW.tableIn (off := 1158) (tgt := 1191) dL_law_33 (by rw [e29]; decide) (by rw [e29]; decide) (by rw [e29]; rfl) (by decide) k_) ?_
    exact lc_night h hg hm hn kk
  by_cases e30 : w = 30
  · refine AX.map (fun _ k_ => AW.tableIn (off := 1181) (tgt := 1214) dL_law_33 (by rw [e30]; decide) (by rw [e30]; decide) (by rw [e30]; rfl) (by decide) k_) ?_
    exact lc_appointments h hg hm hn kk
  by_cases e31 : w = 31
  · refine AX.map (fun _ k_ => AW.tableIn (off := 1214) (tgt := 1247) dL_law_33 (by rw [e31]; decide) (by rw [e31]; decide) (by rw [e31]; rfl) (by decide) k_) ?_
    exact lc_rounds h hg hm hn kk
  by_cases e32 : w = 32
  · refine AX.map (fun _ k_ => AW.tableIn (off := 1227) (tgt := 1260) dL_law_33 (by rw [e32]; decide) (by rw [e32]; decide) (by rw [e32]; rfl) (by decide) k_) ?_
    exact lc_weddings h hg hm hn kk
  by_cases e33 : w = 33
  · refine AX.map (fun _ k_ => AW.tableIn (off := 1250) (tgt := 1283) dL_law_33 (by rw [e33]; decide) (by rw [e33]; decide) (by rw [e33]; rfl) (by decide) k_) ?_
    exact lc_twins h hg hm hn kk
  by_cases e34 : w = 34
  · refine AX.map (fun _ k_ => AW.tableIn (off := 1263) (tgt := 1296) dL_law_33 (by rw [e34]; decide) (by rw [e34]; decide) (by rw [e34]; rfl) (by decide) k_) ?_
    exact lc_gossip h hg hm hn kk
  by_cases e35 : w = 35
  · refine AX.map (fun _ k_ => AW.tableIn (off := 1296) (tgt := 1329) dL_law_33 (by rw [e35]; decide) (by rw [e35]; decide) (by rw [e35]; rfl) (by decide) k_) ?_
    exact lc_knows h hg hm hn kk
  by_cases e36 : w = 36
  · refine AX.map (fun _ k_ => AW.tableIn (off := 1329) (tgt := 1362) dL_law_33 (by rw [e36]; decide) (by rw [e36]; decide) (by rw [e36]; rfl) (by decide) k_) ?_
    exact lc_never h hg hm hn kk
  by_cases e37 : w = 37
  · refine AX.map (fun _ k_ => AW.tableIn (off := 1352) (tgt := 1385) dL_law_33 (by rw [e37]; decide) (by rw [e37]; decide) (by rw [e37]; rfl) (by decide) k_) ?_
    by_cases z : f (m + 1) = 0
    · exact lc_richest_f h hg hm hn z kk
    · exact lc_richest_t h hg hm hn z kk
  by_cases e38 : w = 38
  · refine AX.map (fun _ k_ => AW.tableIn (off := 1391) (tgt := 1424) dL_law_33 (by rw [e38]; decide) (by rw [e38]; decide) (by rw [e38]; rfl) (by decide) k_) ?_
    exact lc_whose h hg hm hn kk
  by_cases e39 : w = 39
  · refine AX.map (fun _ k_ => AW.tableIn (off := 1414) (tgt := 1447) dL_law_33 (by rw [e39]; decide) (by rw [e39]; decide) (by rw [e39]; rfl) (by decide) k_) ?_
    by_cases z : f (m + 2) = 0
    · exact lc_knocks_f h hg hm hn z kk
    · exact lc_knocks_t h hg hm hn z kk
  by_cases e40 : w = 40
  · refine AX.map (fun _ k_ => AW.tableIn (off := 1463) (tgt := 1496) dL_law_33 (by rw [e40]; decide) (by rw [e40]; decide) (by rw [e40]; rfl) (by decide) k_) ?_
    exact lc_offended h hg hm hn kk
  by_cases e41 : w = 41
  · refine AX.map (fun _ k_ => AW.tableIn (off := 1476) (tgt := 1509) dL_law_33 (by rw [e41]; decide) (by rw [e41]; decide) (by rw [e41]; rfl) (by decide) k_) ?_
    exact lc_leap h hg hm hn kk
  by_cases e42 : w = 42
  · refine AX.map (fun _ k_ => AW.tableIn (off := 1509) (tgt := 1542) dL_law_33 (by rw [e42]; decide) (by rw [e42]; decide) (by rw [e42]; rfl) (by decide) k_) ?_
    exact lc_image h hg hm hn kk
  by_cases e43 : w = 43
  · refine AX.map (fun _ k_ => AW.tableIn (off := 1522) (tgt := 1555) dL_law_33 (by rw [e43]; decide) (by rw [e43]; decide) (by rw [e43]; rfl) (by decide) k_) ?_
    exact lc_back h hg hm hn kk
  by_cases e44 : w = 44
  · refine AX.map (fun _ k_ => AW.tableIn (off := 1535) (tgt := 1568) dL_law_33 (by rw [e44]; decide) (by rw [e44]; decide) (by rw [e44]; rfl) (by decide) k_) ?_
    exact lc_about h hg hm hn kk
  refine AX.map (fun _ k_ => AW.tableOut (tgt := 1591) dL_law_33 (by have q0 : ¬ w.toInt = 0 := fun q => e0 (Int32.toInt_inj.mp q); have q1 : ¬ w.toInt = 1 := fun q => e1 (Int32.toInt_inj.mp q); have q2 : ¬ w.toInt = 2 := fun q => e2 (Int32.toInt_inj.mp q); have q3 : ¬ w.toInt = 3 := fun q => e3 (Int32.toInt_inj.mp q); have q4 : ¬ w.toInt = 4 := fun q => e4 (Int32.toInt_inj.mp q); have q5 : ¬ w.toInt = 5 := fun q => e5 (Int32.toInt_inj.mp q); have q6 : ¬ w.toInt = 6 := fun q => e6 (Int32.toInt_inj.mp q); have q7 : ¬ w.toInt = 7 := fun q => e7 (Int32.toInt_inj.mp q); have q8 : ¬ w.toInt = 8 := fun q => e8 (Int32.toInt_inj.mp q); have q9 : ¬ w.toInt = 9 := fun q => e9 (Int32.toInt_inj.mp q); have q10 : ¬ w.toInt = 10 := fun q => e10 (Int32.toInt_inj.mp q); have q11 : ¬ w.toInt = 11 := fun q => e11 (Int32.toInt_inj.mp q); have q12 : ¬ w.toInt = 12 := fun q => e12 (Int32.toInt_inj.mp q); have q13 : ¬ w.toInt = 13 := fun q => e13 (Int32.toInt_inj.mp q); have q14 : ¬ w.toInt = 14 := fun q => e14 (Int32.toInt_inj.mp q); have q15 : ¬ w.toInt = 15 := fun q => e15 (Int32.toInt_inj.mp q); have q16 : ¬ w.toInt = 16 := fun q => e16 (Int32.toInt_inj.mp q); have q17 : ¬ w.toInt = 17 := fun q => e17 (Int32.toInt_inj.mp q); have q18 : ¬ w.toInt = 18 := fun q => e18 (Int32.toInt_inj.mp q); have q19 : ¬ w.toInt = 19 := fun q => e19 (Int32.toInt_inj.mp q); have q20 : ¬ w.toInt = 20 := fun q => e20 (Int32.toInt_inj.mp q); have q21 : ¬ w.toInt = 21 := fun q => e21 (Int32.toInt_inj.mp q); have q22 : ¬ w.toInt = 22 := fun q => e22 (Int32.toInt_inj.mp q); have q23 : ¬ w.toInt = 23 := fun q => e23 (Int32.toInt_inj.mp q); have q24 : ¬ w.toInt = 24 := fun q => e24 (Int32.toInt_inj.mp q); have q25 : ¬ w.toInt = 25 := fun q => e25 (Int32.toInt_inj.mp q); have q26 : ¬ w.toInt = 26 := fun q => e26 (Int32.toInt_inj.mp q); have q27 : ¬ w.toInt = 27 := fun q => e27 (Int32.toInt_inj.mp q); have q28 : ¬ w.toInt = 28 := fun q => e28 (Int32.toInt_inj.mp q); have q29 : ¬ w.toInt = 29 := fun q => e29 (Int32.toInt_inj.mp q); have q30 : ¬ w.toInt = 30 := fun q => e30 (Int32.toInt_inj.mp q); have q31 : ¬ w.toInt = 31 := fun q => e31 (Int32.toInt_inj.mp q); have q32 : ¬ w.toInt = 32 := fun q => e32 (Int32.toInt_inj.mp q); have q33 : ¬ w.toInt = 33 := fun q => e33 (Int32.toInt_inj.mp q); have q34 : ¬ w.toInt = 34 := fun q => e34 (Int32.toInt_inj.mp q); have q35 : ¬ w.toInt = 35 := fun q => e35 (Int32.toInt_inj.mp q); have q36 : ¬ w.toInt = 36 := fun q => e36 (Int32.toInt_inj.mp q); have q37 : ¬ w.toInt = 37 := fun q => e37 (Int32.toInt_inj.mp q); have q38 : ¬ w.toInt = 38 := fun q => e38 (Int32.toInt_inj.mp q); have q39 : ¬ w.toInt = 39 := fun q => e39 (Int32.toInt_inj.mp q); have q40 : ¬ w.toInt = 40 := fun q => e40 (Int32.toInt_inj.mp q); have q41 : ¬ w.toInt = 41 := fun q => e41 (Int32.toInt_inj.mp q); have q42 : ¬ w.toInt = 42 := fun q => e42 (Int32.toInt_inj.mp q); have q43 : ¬ w.toInt = 43 := fun q => e43 (Int32.toInt_inj.mp q); have q44 : ¬ w.toInt = 44 := fun q => e44 (Int32.toInt_inj.mp q); omega) (by decide) k_) ?_
  exact kk s h.same
/-- the rounds -/
theorem law_loop (hn : n ≤ 384) (m : Nat) : ∀ (j : Nat) (s : Sg), 6 * j + 6 * m ≤ n → n < 6 * j + 6 * m + 6 → Inv s → s.b.g 500 = some (sc n f) → (∀ v : Sg, v.b.n ≤ s.b.n + 5000 * m → v.b.u ≤ s.b.u + 40000 * m → Q (hp v)) → AX Q 140 mL_law (hp s) 18 [some (.ref 500), some (.ref 512), some (.ref 625), some (.int (nI (6 * j)))] [] (.inl (some (.int 1))) := by
  have e6 : ∀ (j : Nat), 6 * j ≤ n → (Int32.ofNat n - 6).toInt = (n : Int) - 6 := fun _ _ => by
    have e : (Int32.ofNat n - 6).toInt = ((nI n).toInt - (6 : Int32).toInt).bmod (2 ^ 32) := Int32.toInt_sub _ _
    rw [e, nI_t (by omega)]
    show ((n : Int) - 6).bmod (2 ^ 32) = _
    exact Int.bmod_eq_of_le (by omega) (by omega)
  induction m with
  | zero =>
    intro j s h1 h2 hI hg hQ
    refine AX.map (fun _ k_ => AW.iload_n dL_law_18 rfl rfl k_) ?_
    refine AX.map (fun _ k_ => AW.aload_n dL_law_19 rfl rfl k_) ?_
    refine AX.map (fun _ k_ => AW.alen dL_law_20 (g300 hg) rfl rfl k_) ?_
    refine AX.map (fun _ k_ => AW.bipush (v := 6) dL_law_21 (by decide) rfl k_) ?_
    refine AX.map (fun _ k_ => AW.isub dL_law_23 rfl k_) ?_
    have hgt : Int32.ofNat n - 6 < nI (6 * j) := by rw [Int32.lt_iff_toInt_lt, e6 j (by omega), nI_t (by omega)]; omega
    refine AX.map (fun _ k_ => AW.icmp_gt (tgt := 1597) dL_law_24 (by decide) rfl (fun _ => k_) (fun c_ => absurd hgt c_)) ?_
    refine AX.map (fun _ k_ => AW.iconst (v := 1) dL_law_1597 (by decide) rfl k_) ?_
    exact ⟨_, hQ s (Nat.le_refl _) (Nat.le_refl _), AW.zretE dL_law_1598 rfl rfl rfl (Or.inr rfl) rfl⟩
  | succ m ih =>
    intro j s h1 h2 hI hg hQ
    refine AX.map (fun _ k_ => AW.iload_n dL_law_18 rfl rfl k_) ?_
    refine AX.map (fun _ k_ => AW.aload_n dL_law_19 rfl rfl k_) ?_
    refine AX.map (fun _ k_ => AW.alen dL_law_20 (g300 hg) rfl rfl k_) ?_
    refine AX.map (fun _ k_ => AW.bipush (v := 6) dL_law_21 (by decide) rfl k_) ?_
    refine AX.map (fun _ k_ => AW.isub dL_law_23 rfl k_) ?_
    have hgt : ¬ Int32.ofNat n - 6 < nI (6 * j) := by rw [Int32.lt_iff_toInt_lt, e6 j (by omega), nI_t (by omega)]; omega
    refine AX.map (fun _ k_ => AW.icmp_gt (tgt := 1597) dL_law_24 (by decide) rfl (fun c_ => absurd c_ hgt) (fun _ => k_)) ?_
    refine law_one hI hg (by omega) hn (fun v nx => ?_)
    refine AX.map (fun _ k_ => AW.iinc (v := 6) dL_law_1591 rfl (by decide) rfl rfl rfl k_) ?_
    refine AX.map (fun _ k_ => AW.goto (tgt := 18) dL_law_1594 (by decide) k_) ?_
    have e : nI (6 * j) + 6 = nI (6 * (j + 1)) := by rw [show (6 : Int32) = nI 6 from rfl, nI_add]; congr 1
    obtain ⟨nI1, x1, x2, x3, x4, x5⟩ := nx
    refine AX.lsE (by rw [← e]; rfl) (ih (j + 1) v (by omega) (by omega) nI1 ((x5 500 (by omega)).trans hg) (fun w w1 w2 => hQ w (by omega) (by omega)))
end LAW2
