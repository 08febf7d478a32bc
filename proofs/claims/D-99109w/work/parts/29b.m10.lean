/-! MODEL 10: going through a clause (printed by tools/m10.py) -/
set_option maxRecDepth 100000
theorem r_X2_work {s : Sg} {V : Nat → Int64} {B : Nat → Bool} (t c lo hi : Nat) (ht : s.A 626 2 = nI t) (ht4 : t < 4) (hc : c < 24) (hlo : s.A 628 (705 * t + 1 + 4 * c + 1) = nI lo) (hhi : s.A 628 (705 * t + 1 + 4 * c + 2) = nI hi) (hle : lo ≤ hi) (h304 : hi ≤ 304) (hok : ∀ k, k < hi - lo → okE (codeC (s.A 628) t lo k).1 (codeC (s.A 628) t lo k).2 ((evE (s.A 631) (codeC (s.A 628) t lo) (0, 0, V, B)) k).1 ((evE (s.A 631) (codeC (s.A 628) t lo) (0, 0, V, B)) k).2.1) : Run 3 mX2_work [.ref 625, .int (nI c)] (hp (sv s V B)) (.inl none) (hp (sv s ((evE (s.A 631) (codeC (s.A 628) t lo) (0, 0, V, B)) (hi - lo)).2.2.1 ((evE (s.A 631) (codeC (s.A 628) t lo) (0, 0, V, B)) (hi - lo)).2.2.2)) := by
  refine Run.of rfl (Nat.le_of_ble_eq_true rfl) rfl ?_
  refine AW.sipush (v := 705) dX2_work_0 (by decide) rfl ?_
  refine AW.aload_n dX2_work_3 rfl rfl ?_
  refine AW.get ci2 0 (by decide) q1351 dX2_work_4 gM rfl rfl ?_
  refine AW.iconst (v := 2) dX2_work_7 (by decide) rfl ?_
  refine AW.iald dX2_work_8 gv626 (vp_in_iff.mpr (by decide)) (j := 2) (by decide) rfl ?_
  refine AW.imul dX2_work_9 rfl ?_
  refine AW.iconst (v := 1) dX2_work_10 (by decide) rfl ?_
  refine AW.iadd dX2_work_11 rfl ?_
  refine AW.iconst (v := 4) dX2_work_12 (by decide) rfl ?_
  refine AW.iload_n dX2_work_13 rfl rfl ?_
  refine AW.imul dX2_work_14 rfl ?_
  refine AW.iadd dX2_work_15 rfl ?_
  refine AW.istore_n (i := 2) dX2_work_16 rfl rfl (Nat.le_of_ble_eq_true rfl) rfl rfl ?_
  refine AW.ls (ls' := [some (.ref 625), some (.int (nI c)), some (.int (nI (705 * t + 1 + 4 * c))), none, none, none, none, none, none]) (by rw [show (705 : Int32) * s.A 626 2 + 1 + 4 * nI c = nI (705 * t + 1 + 4 * c) by rw [ht, show (705 : Int32) = nI 705 from rfl, show (4 : Int32) = nI 4 from rfl, nI_mul, nI_mul, nI_1, nI_add]]; rfl) ?_
  refine AW.sipush (v := 705) dX2_work_17 (by decide) rfl ?_
  refine AW.aload_n dX2_work_20 rfl rfl ?_
  refine AW.get ci2 0 (by decide) q1351 dX2_work_21 gM rfl rfl ?_
  refine AW.iconst (v := 2) dX2_work_24 (by decide) rfl ?_
  refine AW.iald dX2_work_25 gv626 (vp_in_iff.mpr (by decide)) (j := 2) (by decide) rfl ?_
  refine AW.imul dX2_work_26 rfl ?_
  refine AW.bipush (v := 97) dX2_work_27 (by decide) rfl ?_
  refine AW.iadd dX2_work_29 rfl ?_
  refine AW.istore_n (i := 3) dX2_work_30 rfl rfl (Nat.le_of_ble_eq_true rfl) rfl rfl ?_
  refine AW.ls (ls' := [some (.ref 625), some (.int (nI c)), some (.int (nI (705 * t + 1 + 4 * c))), some (.int (nI (705 * t + 97))), none, none, none, none, none]) (by rw [show (705 : Int32) * s.A 626 2 + 97 = nI (705 * t + 97) by rw [ht, show (705 : Int32) = nI 705 from rfl, show (97 : Int32) = nI 97 from rfl, nI_mul, nI_add]]; rfl) ?_
  refine AW.iconst (v := 0) dX2_work_31 (by decide) rfl ?_
  refine AW.istore dX2_work_32 rfl (Nat.le_of_ble_eq_true rfl) rfl rfl ?_
  refine AW.iconst (v := 0) dX2_work_34 (by decide) rfl ?_
  refine AW.istore dX2_work_35 rfl (Nat.le_of_ble_eq_true rfl) rfl rfl ?_
  refine AW.aload_n dX2_work_37 rfl rfl ?_
  refine AW.get ci2 2 (by decide) q1353 dX2_work_38 gM rfl rfl ?_
  refine AW.iload_n dX2_work_41 rfl rfl ?_
  refine AW.iconst (v := 1) dX2_work_42 (by decide) rfl ?_
  refine AW.iadd dX2_work_43 rfl ?_
  refine AW.iald dX2_work_44 gv628 (by rw [(show nI (705 * t + 1 + 4 * c) + 1 = nI (705 * t + 1 + 4 * c + 1) by rw [nI_succ])]; exact in0 (705 * t + 1 + 4 * c + 1) (by omega) (by decide)) (j := 705 * t + 1 + 4 * c + 1) (by rw [(show nI (705 * t + 1 + 4 * c) + 1 = nI (705 * t + 1 + 4 * c + 1) by rw [nI_succ])]; exact cI_nI (by omega)) rfl ?_
  refine AW.istore dX2_work_45 rfl (Nat.le_of_ble_eq_true rfl) rfl rfl ?_
  refine AW.ls (ls' := [some (.ref 625), some (.int (nI c)), some (.int (nI (705 * t + 1 + 4 * c))), some (.int (nI (705 * t + 97))), some (.int (nI 0)), some (.int (nI 0)), some (.int (nI (lo + 0))), none, none]) (by rw [hlo]; rfl) ?_
  refine loopUp (P := fun k => AW 3 mX2_work (hp (sv s ((evE (s.A 631) (codeC (s.A 628) t lo) (0, 0, V, B)) k).2.2.1 ((evE (s.A 631) (codeC (s.A 628) t lo) (0, 0, V, B)) k).2.2.2)) 47 [some (.ref 625), some (.int (nI c)), some (.int (nI (705 * t + 1 + 4 * c))), some (.int (nI (705 * t + 97))), some (.int (nI ((evE (s.A 631) (codeC (s.A 628) t lo) (0, 0, V, B)) k).1)), some (.int (nI ((evE (s.A 631) (codeC (s.A 628) t lo) (0, 0, V, B)) k).2.1)), some (.int (nI (lo + k))), none, none] [] (.inl none) (hp (sv s ((evE (s.A 631) (codeC (s.A 628) t lo) (0, 0, V, B)) (hi - lo)).2.2.1 ((evE (s.A 631) (codeC (s.A 628) t lo) (0, 0, V, B)) (hi - lo)).2.2.2))) (hi - lo) ?_ ?_ 0 (by first | exact Nat.zero_le _ | omega)
  · refine AW.iload dX2_work_47 rfl rfl ?_
    refine AW.aload_n dX2_work_49 rfl rfl ?_
    refine AW.get ci2 2 (by decide) q1353 dX2_work_50 gM rfl rfl ?_
    refine AW.iload_n dX2_work_53 rfl rfl ?_
    refine AW.iconst (v := 2) dX2_work_54 (by decide) rfl ?_
    refine AW.iadd dX2_work_55 rfl ?_
    refine AW.iald dX2_work_56 gv628 (by rw [(show nI (705 * t + 1 + 4 * c) + 2 = nI (705 * t + 1 + 4 * c + 2) by rw [show (2 : Int32) = nI 2 from rfl, nI_add])]; exact in0 (705 * t + 1 + 4 * c + 2) (by omega) (by decide)) (j := 705 * t + 1 + 4 * c + 2) (by rw [(show nI (705 * t + 1 + 4 * c) + 2 = nI (705 * t + 1 + 4 * c + 2) by rw [show (2 : Int32) = nI 2 from rfl, nI_add])]; exact cI_nI (by omega)) rfl ?_
    refine AW.icmp_ge (tgt := 374) dX2_work_57 (by decide) rfl (fun _ => ?_) (fun c_ => by first | exact absurd c_ (by rw [hhi, Int32.le_iff_toInt_le, nI_t (by omega), nI_t (by omega)]; omega) | exact absurd (by rw [hhi, Int32.le_iff_toInt_le, nI_t (by omega), nI_t (by omega)]; omega) c_ | exact absurd c_ (not_not_intro (by rw [hhi, Int32.le_iff_toInt_le, nI_t (by omega), nI_t (by omega)]; omega)) | exact Bool.noConfusion (c_.symm.trans (by rw [hhi, Int32.le_iff_toInt_le, nI_t (by omega), nI_t (by omega)]; omega)))
    exact AW.vretE dX2_work_374 rfl rfl rfl
  · intro k hk ihk
    have hk2 := hok k hk
    generalize (hp (sv s ((evE (s.A 631) (codeC (s.A 628) t lo) (0, 0, V, B)) (hi - lo)).2.2.1 ((evE (s.A 631) (codeC (s.A 628) t lo) (0, 0, V, B)) (hi - lo)).2.2.2)) = hF at ihk ⊢
    have hs : (evE (s.A 631) (codeC (s.A 628) t lo) (0, 0, V, B)) (k + 1) = stepE (s.A 631) (codeC (s.A 628) t lo k).1 (codeC (s.A 628) t lo k).2 ((evE (s.A 631) (codeC (s.A 628) t lo) (0, 0, V, B)) k) := rfl
    rw [hs] at ihk
    clear hs hok
    revert hk2
    revert ihk
    generalize (evE (s.A 631) (codeC (s.A 628) t lo) (0, 0, V, B)) k = q
    obtain ⟨n, m, W, B1⟩ := q
    dsimp only [codeC]
    intro ihk hk2
    refine AW.iload dX2_work_47 rfl rfl ?_
    refine AW.aload_n dX2_work_49 rfl rfl ?_
    refine AW.get ci2 2 (by decide) q1353 dX2_work_50 gM rfl rfl ?_
    refine AW.iload_n dX2_work_53 rfl rfl ?_
    refine AW.iconst (v := 2) dX2_work_54 (by decide) rfl ?_
    refine AW.iadd dX2_work_55 rfl ?_
    refine AW.iald dX2_work_56 gv628 (by rw [(show nI (705 * t + 1 + 4 * c) + 2 = nI (705 * t + 1 + 4 * c + 2) by rw [show (2 : Int32) = nI 2 from rfl, nI_add])]; exact in0 (705 * t + 1 + 4 * c + 2) (by omega) (by decide)) (j := 705 * t + 1 + 4 * c + 2) (by rw [(show nI (705 * t + 1 + 4 * c) + 2 = nI (705 * t + 1 + 4 * c + 2) by rw [show (2 : Int32) = nI 2 from rfl, nI_add])]; exact cI_nI (by omega)) rfl ?_
    refine AW.icmp_ge (tgt := 374) dX2_work_57 (by decide) rfl (fun c_ => by first | exact absurd c_ (by rw [hhi, Int32.le_iff_toInt_le, nI_t (by omega), nI_t (by omega)]; omega) | exact absurd (by rw [hhi, Int32.le_iff_toInt_le, nI_t (by omega), nI_t (by omega)]; omega) c_ | exact Bool.noConfusion (c_.symm.trans (by rw [hhi, Int32.le_iff_toInt_le, nI_t (by omega), nI_t (by omega)]; omega))) (fun _ => ?_)
    refine AW.aload_n dX2_work_60 rfl rfl ?_
    refine AW.get ci2 2 (by decide) q1353 dX2_work_61 gM rfl rfl ?_
    refine AW.iload_n dX2_work_64 rfl rfl ?_
    refine AW.iconst (v := 2) dX2_work_65 (by decide) rfl ?_
    refine AW.iload dX2_work_66 rfl rfl ?_
    refine AW.imul dX2_work_68 rfl ?_
    refine AW.iadd dX2_work_69 rfl ?_
    refine AW.iald dX2_work_70 gv628 (by rw [(show nI (705 * t + 97) + 2 * nI (lo + k) = nI (705 * t + 97 + 2 * (lo + k)) by rw [show (2 : Int32) = nI 2 from rfl, nI_mul, nI_add])]; exact in0 (705 * t + 97 + 2 * (lo + k)) (by omega) (by decide)) (j := 705 * t + 97 + 2 * (lo + k)) (by rw [(show nI (705 * t + 97) + 2 * nI (lo + k) = nI (705 * t + 97 + 2 * (lo + k)) by rw [show (2 : Int32) = nI 2 from rfl, nI_mul, nI_add])]; exact cI_nI (by omega)) rfl ?_
    refine AW.istore dX2_work_71 rfl (Nat.le_of_ble_eq_true rfl) rfl rfl ?_
    refine AW.aload_n dX2_work_73 rfl rfl ?_
    refine AW.get ci2 2 (by decide) q1353 dX2_work_74 gM rfl rfl ?_
    refine AW.iload_n dX2_work_77 rfl rfl ?_
    refine AW.iconst (v := 2) dX2_work_78 (by decide) rfl ?_
    refine AW.iload dX2_work_79 rfl rfl ?_
    refine AW.imul dX2_work_81 rfl ?_
    refine AW.iadd dX2_work_82 rfl ?_
    refine AW.iconst (v := 1) dX2_work_83 (by decide) rfl ?_
    refine AW.iadd dX2_work_84 rfl ?_
    refine AW.iald dX2_work_85 gv628 (by rw [(show nI (705 * t + 97) + 2 * nI (lo + k) + 1 = nI (705 * t + 97 + 2 * (lo + k) + 1) by rw [show (2 : Int32) = nI 2 from rfl, nI_mul, nI_add, nI_succ])]; exact in0 (705 * t + 97 + 2 * (lo + k) + 1) (by omega) (by decide)) (j := 705 * t + 97 + 2 * (lo + k) + 1) (by rw [(show nI (705 * t + 97) + 2 * nI (lo + k) + 1 = nI (705 * t + 97 + 2 * (lo + k) + 1) by rw [show (2 : Int32) = nI 2 from rfl, nI_mul, nI_add, nI_succ])]; exact cI_nI (by omega)) rfl ?_
    refine AW.istore dX2_work_86 rfl (Nat.le_of_ble_eq_true rfl) rfl rfl ?_
    generalize s.A 628 (705 * t + 97 + 2 * (lo + k) + 1) = v at *
    generalize s.A 628 (705 * t + 97 + 2 * (lo + k)) = o at *
    refine AW.iload dX2_work_88 rfl rfl ?_
    refine AW.iconst (v := 1) dX2_work_90 (by decide) rfl ?_
    refine AW.icmp_gt (tgt := 126) dX2_work_91 (by decide) rfl (fun c91 => ?_) (fun c91 => ?_)
    · refine AW.iload dX2_work_126 rfl rfl ?_
      refine AW.iconst (v := 2) dX2_work_128 (by decide) rfl ?_
      refine AW.icmp_ne (tgt := 154) dX2_work_129 (by decide) rfl (fun c129 => ?_) (fun c129 => ?_)
      · refine AW.iload dX2_work_154 rfl rfl ?_
        refine AW.bipush (v := 10) dX2_work_156 (by decide) rfl ?_
        refine AW.icmp_ge (tgt := 226) dX2_work_158 (by decide) rfl (fun c158 => ?_) (fun c158 => ?_)
        · refine AW.iload dX2_work_226 rfl rfl ?_
          refine AW.bipush (v := 20) dX2_work_228 (by decide) rfl ?_
          refine AW.icmp_ge (tgt := 299) dX2_work_230 (by decide) rfl (fun c230 => ?_) (fun c230 => ?_)
          · refine AW.iload dX2_work_299 rfl rfl ?_
            refine AW.bipush (v := 20) dX2_work_301 (by decide) rfl ?_
            refine AW.icmp_ne (tgt := 335) dX2_work_303 (by decide) rfl (fun c303 => ?_) (fun c303 => ?_)
            · have ok := okE_j c91 c129 c158 c230 c303 hk2
              refine AW.iinc (v := (-1)) dX2_work_335 rfl (by decide) rfl rfl rfl ?_
              refine AW.ls (ls' := [some (.ref 625), some (.int (nI c)), some (.int (nI (705 * t + 1 + 4 * c))), some (.int (nI (705 * t + 97))), some (.int (nI (n))), some (.int (nI (m - 1))), some (.int (nI (lo + k))), some (.int o), some (.int v)]) (by rw [nI_m1 (by omega)]; rfl) ?_
              refine AW.aload_n dX2_work_338 rfl rfl ?_
              refine AW.get ci2 23 (by decide) q1374 dX2_work_339 gM rfl rfl ?_
              refine AW.iload dX2_work_342 rfl rfl ?_
              refine AW.iconst (v := 1) dX2_work_344 (by decide) rfl ?_
              refine AW.isub dX2_work_345 rfl ?_
              refine AW.iload dX2_work_346 rfl rfl ?_
              refine AW.aload_n dX2_work_348 rfl rfl ?_
              refine AW.get ci2 23 (by decide) q1374 dX2_work_349 gM rfl rfl ?_
              refine AW.iload dX2_work_352 rfl rfl ?_
              refine AW.iconst (v := 1) dX2_work_354 (by decide) rfl ?_
              refine AW.isub dX2_work_355 rfl ?_
              refine AW.zald dX2_work_356 gv633 (by rw [nI_s1 (by omega)]; exact in0 (m - 2) (by omega) (by decide)) (j := m - 2) (by rw [nI_s1 (by omega)]; exact cI_nI (by omega)) rfl ?_
              refine AW.aload_n dX2_work_357 rfl rfl ?_
              refine AW.get ci2 23 (by decide) q1374 dX2_work_358 gM rfl rfl ?_
              refine AW.iload dX2_work_361 rfl rfl ?_
              refine AW.zald dX2_work_363 gv633 (by exact in0 (m - 1) (by omega) (by decide)) (j := m - 1) (by exact cI_nI (by omega)) rfl ?_
              refine AW.callS (Y := mX2_joined) (n := 3) (r_X2_joined _ _ _) (by decide) (by decide) q1723 q1724 q141 q1725 dX2_work_364 (by decide +kernel) rfl rfl (Nat.le_of_ble_eq_true rfl) rfl ?_
              refine AW.zast dX2_work_367 (by decide) gv633 (by rw [nI_s1 (by omega)]; exact in0 (m - 2) (by omega) (by decide)) (j := m - 2) (by rw [nI_s1 (by omega)]; exact cI_nI (by omega)) (b2i_or _) sv633 rfl ?_
              refine AW.iinc (v := 1) dX2_work_368 rfl (by decide) rfl rfl rfl ?_
              refine AW.goto (tgt := 47) dX2_work_371 (by decide) ?_
              rw [stepE_j c91 c129 c158 c230 c303] at ihk
              exact AW.fg 7 rfl (AW.fg 8 rfl (AW.ls (by simp only [← nI_succ]; rfl) ihk))
            · have ok := okE_n c91 c129 c158 c230 c303 hk2
              refine AW.aload_n dX2_work_306 rfl rfl ?_
              refine AW.get ci2 23 (by decide) q1374 dX2_work_307 gM rfl rfl ?_
              refine AW.iload dX2_work_310 rfl rfl ?_
              refine AW.iconst (v := 1) dX2_work_312 (by decide) rfl ?_
              refine AW.isub dX2_work_313 rfl ?_
              refine AW.aload_n dX2_work_314 rfl rfl ?_
              refine AW.get ci2 23 (by decide) q1374 dX2_work_315 gM rfl rfl ?_
              refine AW.iload dX2_work_318 rfl rfl ?_
              refine AW.iconst (v := 1) dX2_work_320 (by decide) rfl ?_
              refine AW.isub dX2_work_321 rfl ?_
              refine AW.zald dX2_work_322 gv633 (by rw [nI_s1 (by omega)]; exact in0 (m - 1) (by omega) (by decide)) (j := m - 1) (by rw [nI_s1 (by omega)]; exact cI_nI (by omega)) rfl ?_
              refine AW.if_ne (tgt := 330) dX2_work_323 (by decide) rfl (fun c323 => ?_) (fun c323 => ?_)
              · refine AW.iconst (v := 0) dX2_work_330 (by decide) rfl ?_
                refine AW.st (st' := [.int (b2i (!B1 (m - 1))), .int (nI m - 1), .ref 633]) (by first | (rw [b2i_t' c323]; rfl) | (rw [b2i_f' (Classical.not_not.mp c323)]; rfl) | (rw [b2i_f' c323]; rfl)) ?_
                refine AW.zast dX2_work_331 (by decide) gv633 (by rw [nI_s1 (by omega)]; exact in0 (m - 1) (by omega) (by decide)) (j := m - 1) (by rw [nI_s1 (by omega)]; exact cI_nI (by omega)) (b2i_or _) sv633 rfl ?_
                refine AW.goto (tgt := 368) dX2_work_332 (by decide) ?_
                refine AW.iinc (v := 1) dX2_work_368 rfl (by decide) rfl rfl rfl ?_
                refine AW.goto (tgt := 47) dX2_work_371 (by decide) ?_
                rw [stepE_n c91 c129 c158 c230 c303] at ihk
                exact AW.fg 7 rfl (AW.fg 8 rfl (AW.ls (by simp only [← nI_succ]; rfl) ihk))
              · refine AW.iconst (v := 1) dX2_work_326 (by decide) rfl ?_
                refine AW.goto (tgt := 331) dX2_work_327 (by decide) ?_
                refine AW.st (st' := [.int (b2i (!B1 (m - 1))), .int (nI m - 1), .ref 633]) (by first | (rw [b2i_t' c323]; rfl) | (rw [b2i_f' (Classical.not_not.mp c323)]; rfl) | (rw [b2i_f' c323]; rfl)) ?_
                refine AW.zast dX2_work_331 (by decide) gv633 (by rw [nI_s1 (by omega)]; exact in0 (m - 1) (by omega) (by decide)) (j := m - 1) (by rw [nI_s1 (by omega)]; exact cI_nI (by omega)) (b2i_or _) sv633 rfl ?_
                refine AW.goto (tgt := 368) dX2_work_332 (by decide) ?_
                refine AW.iinc (v := 1) dX2_work_368 rfl (by decide) rfl rfl rfl ?_
                refine AW.goto (tgt := 47) dX2_work_371 (by decide) ?_
                rw [stepE_n c91 c129 c158 c230 c303] at ihk
                exact AW.fg 7 rfl (AW.fg 8 rfl (AW.ls (by simp only [← nI_succ]; rfl) ihk))
          · have ok := okE_a c91 c129 c158 c230 hk2
            refine AW.iinc (v := (-2)) dX2_work_233 rfl (by decide) rfl rfl rfl ?_
            refine AW.ls (ls' := [some (.ref 625), some (.int (nI c)), some (.int (nI (705 * t + 1 + 4 * c))), some (.int (nI (705 * t + 97))), some (.int (nI (n - 2))), some (.int (nI (m))), some (.int (nI (lo + k))), some (.int o), some (.int v)]) (by rw [nI_m2 (by omega)]; rfl) ?_
            refine AW.aload_n dX2_work_236 rfl rfl ?_
            refine AW.get ci2 23 (by decide) q1374 dX2_work_237 gM rfl rfl ?_
            refine AW.iload dX2_work_240 rfl rfl ?_
            refine AW.iload dX2_work_242 rfl rfl ?_
            refine AW.bipush (v := 16) dX2_work_244 (by decide) rfl ?_
            refine AW.icmp_ne (tgt := 271) dX2_work_246 (by decide) rfl (fun c246 => ?_) (fun c246 => ?_)
            · refine AW.iload dX2_work_271 rfl rfl ?_
              refine AW.aload_n dX2_work_273 rfl rfl ?_
              refine AW.get ci2 22 (by decide) q1373 dX2_work_274 gM rfl rfl ?_
              refine AW.iload dX2_work_277 rfl rfl ?_
              refine AW.lald dX2_work_279 gv632 (by exact in0 (n - 2) (by omega) (by decide)) (j := n - 2) (by exact cI_nI (by omega)) rfl ?_
              refine AW.aload_n dX2_work_280 rfl rfl ?_
              refine AW.get ci2 22 (by decide) q1373 dX2_work_281 gM rfl rfl ?_
              refine AW.iload dX2_work_284 rfl rfl ?_
              refine AW.iconst (v := 1) dX2_work_286 (by decide) rfl ?_
              refine AW.iadd dX2_work_287 rfl ?_
              refine AW.lald dX2_work_288 gv632 (by rw [← nI_succ, show n - 2 + 1 = n - 1 by omega]; exact in0 (n - 1) (by omega) (by decide)) (j := n - 1) (by rw [← nI_succ, show n - 2 + 1 = n - 1 by omega]; exact cI_nI (by omega)) rfl ?_
              refine AW.callS (Y := mX2_isAsked) (n := 3) (r_X2_isAsked _ _ _) (by decide) (by decide) q1720 q1721 q141 q1722 dX2_work_289 (by decide +kernel) rfl rfl (Nat.le_of_ble_eq_true rfl) rfl ?_
              refine AW.zast dX2_work_292 (by decide) gv633 (by exact in0 (m) (by omega) (by decide)) (j := m) (by exact cI_nI (by omega)) (b2i_or _) sv633 rfl ?_
              refine AW.iinc (v := 1) dX2_work_293 rfl (by decide) rfl rfl rfl ?_
              refine AW.goto (tgt := 368) dX2_work_296 (by decide) ?_
              refine AW.iinc (v := 1) dX2_work_368 rfl (by decide) rfl rfl rfl ?_
              refine AW.goto (tgt := 47) dX2_work_371 (by decide) ?_
              rw [stepE_a c91 c129 c158 c230 c246] at ihk
              exact AW.fg 7 rfl (AW.fg 8 rfl (AW.ls (by simp only [← nI_succ]; rfl) ihk))
            · refine AW.aload_n dX2_work_249 rfl rfl ?_
              refine AW.get ci2 22 (by decide) q1373 dX2_work_250 gM rfl rfl ?_
              refine AW.iload dX2_work_253 rfl rfl ?_
              refine AW.lald dX2_work_255 gv632 (by exact in0 (n - 2) (by omega) (by decide)) (j := n - 2) (by exact cI_nI (by omega)) rfl ?_
              refine AW.aload_n dX2_work_256 rfl rfl ?_
              refine AW.get ci2 22 (by decide) q1373 dX2_work_257 gM rfl rfl ?_
              refine AW.iload dX2_work_260 rfl rfl ?_
              refine AW.iconst (v := 1) dX2_work_262 (by decide) rfl ?_
              refine AW.iadd dX2_work_263 rfl ?_
              refine AW.lald dX2_work_264 gv632 (by rw [← nI_succ, show n - 2 + 1 = n - 1 by omega]; exact in0 (n - 1) (by omega) (by decide)) (j := n - 1) (by rw [← nI_succ, show n - 2 + 1 = n - 1 by omega]; exact cI_nI (by omega)) rfl ?_
              refine AW.callS (Y := mX2_isDividing) (n := 2) (r_X2_isDividing _ _) (by decide) (by decide) q1717 q1718 q141 q1719 dX2_work_265 (by decide +kernel) rfl rfl (Nat.le_of_ble_eq_true rfl) rfl ?_
              refine AW.goto (tgt := 292) dX2_work_268 (by decide) ?_
              refine AW.zast dX2_work_292 (by decide) gv633 (by exact in0 (m) (by omega) (by decide)) (j := m) (by exact cI_nI (by omega)) (b2i_or _) sv633 rfl ?_
              refine AW.iinc (v := 1) dX2_work_293 rfl (by decide) rfl rfl rfl ?_
              refine AW.goto (tgt := 368) dX2_work_296 (by decide) ?_
              refine AW.iinc (v := 1) dX2_work_368 rfl (by decide) rfl rfl rfl ?_
              refine AW.goto (tgt := 47) dX2_work_371 (by decide) ?_
              rw [stepE_d c91 c129 c158 c230 c246] at ihk
              exact AW.fg 7 rfl (AW.fg 8 rfl (AW.ls (by simp only [← nI_succ]; rfl) ihk))
        · have ok := okE_t c91 c129 c158 hk2
          refine AW.iinc (v := (-1)) dX2_work_161 rfl (by decide) rfl rfl rfl ?_
          refine AW.ls (ls' := [some (.ref 625), some (.int (nI c)), some (.int (nI (705 * t + 1 + 4 * c))), some (.int (nI (705 * t + 97))), some (.int (nI (n - 1))), some (.int (nI (m))), some (.int (nI (lo + k))), some (.int o), some (.int v)]) (by rw [nI_m1 (by omega)]; rfl) ?_
          refine AW.aload_n dX2_work_164 rfl rfl ?_
          refine AW.get ci2 22 (by decide) q1373 dX2_work_165 gM rfl rfl ?_
          refine AW.iload dX2_work_168 rfl rfl ?_
          refine AW.iconst (v := 1) dX2_work_170 (by decide) rfl ?_
          refine AW.isub dX2_work_171 rfl ?_
          refine AW.iload dX2_work_172 rfl rfl ?_
          refine AW.bipush (v := 7) dX2_work_174 (by decide) rfl ?_
          refine AW.icmp_ne (tgt := 201) dX2_work_176 (by decide) rfl (fun c176 => ?_) (fun c176 => ?_)
          · refine AW.iload dX2_work_201 rfl rfl ?_
            refine AW.aload_n dX2_work_203 rfl rfl ?_
            refine AW.get ci2 22 (by decide) q1373 dX2_work_204 gM rfl rfl ?_
            refine AW.iload dX2_work_207 rfl rfl ?_
            refine AW.iconst (v := 1) dX2_work_209 (by decide) rfl ?_
            refine AW.isub dX2_work_210 rfl ?_
            refine AW.lald dX2_work_211 gv632 (by rw [nI_s1 (by omega)]; exact in0 (n - 2) (by omega) (by decide)) (j := n - 2) (by rw [nI_s1 (by omega)]; exact cI_nI (by omega)) rfl ?_
            refine AW.aload_n dX2_work_212 rfl rfl ?_
            refine AW.get ci2 22 (by decide) q1373 dX2_work_213 gM rfl rfl ?_
            refine AW.iload dX2_work_216 rfl rfl ?_
            refine AW.lald dX2_work_218 gv632 (by exact in0 (n - 1) (by omega) (by decide)) (j := n - 1) (by exact cI_nI (by omega)) rfl ?_
            refine AW.callS (Y := mX2_two) (n := 3) (r_X2_two _ _ _) (by decide) (by decide) q1709 q1710 q141 q1711 dX2_work_219 (by decide +kernel) rfl rfl (Nat.le_of_ble_eq_true rfl) rfl ?_
            refine AW.last dX2_work_222 (by decide) gv632 (by rw [nI_s1 (by omega)]; exact in0 (n - 2) (by omega) (by decide)) (j := n - 2) (by rw [nI_s1 (by omega)]; exact cI_nI (by omega)) sv632 rfl ?_
            refine AW.goto (tgt := 368) dX2_work_223 (by decide) ?_
            refine AW.iinc (v := 1) dX2_work_368 rfl (by decide) rfl rfl rfl ?_
            refine AW.goto (tgt := 47) dX2_work_371 (by decide) ?_
            rw [stepE_t c91 c129 c158 c176] at ihk
            exact AW.fg 7 rfl (AW.fg 8 rfl (AW.ls (by simp only [← nI_succ]; rfl) ihk))
          · refine AW.aload_n dX2_work_179 rfl rfl ?_
            refine AW.get ci2 22 (by decide) q1373 dX2_work_180 gM rfl rfl ?_
            refine AW.iload dX2_work_183 rfl rfl ?_
            refine AW.iconst (v := 1) dX2_work_185 (by decide) rfl ?_
            refine AW.isub dX2_work_186 rfl ?_
            refine AW.lald dX2_work_187 gv632 (by rw [nI_s1 (by omega)]; exact in0 (n - 2) (by omega) (by decide)) (j := n - 2) (by rw [nI_s1 (by omega)]; exact cI_nI (by omega)) rfl ?_
            refine AW.aload_n dX2_work_188 rfl rfl ?_
            refine AW.get ci2 22 (by decide) q1373 dX2_work_189 gM rfl rfl ?_
            refine AW.iload dX2_work_192 rfl rfl ?_
            refine AW.lald dX2_work_194 gv632 (by exact in0 (n - 1) (by omega) (by decide)) (j := n - 1) (by exact cI_nI (by omega)) rfl ?_
            refine AW.callS (Y := mX2_digit) (n := 2) (r_X2_digit _ _) (by decide) (by decide) q1704 q1705 q141 q1706 dX2_work_195 (by decide +kernel) rfl rfl (Nat.le_of_ble_eq_true rfl) rfl ?_
            refine AW.goto (tgt := 222) dX2_work_198 (by decide) ?_
            refine AW.last dX2_work_222 (by decide) gv632 (by rw [nI_s1 (by omega)]; exact in0 (n - 2) (by omega) (by decide)) (j := n - 2) (by rw [nI_s1 (by omega)]; exact cI_nI (by omega)) sv632 rfl ?_
            refine AW.goto (tgt := 368) dX2_work_223 (by decide) ?_
            refine AW.iinc (v := 1) dX2_work_368 rfl (by decide) rfl rfl rfl ?_
            refine AW.goto (tgt := 47) dX2_work_371 (by decide) ?_
            rw [stepE_7 c91 c129 c158 c176] at ihk
            exact AW.fg 7 rfl (AW.fg 8 rfl (AW.ls (by simp only [← nI_succ]; rfl) ihk))
      · have ok := okE_2 c91 c129 hk2
        refine AW.aload_n dX2_work_132 rfl rfl ?_
        refine AW.get ci2 22 (by decide) q1373 dX2_work_133 gM rfl rfl ?_
        refine AW.iload dX2_work_136 rfl rfl ?_
        refine AW.iconst (v := 1) dX2_work_138 (by decide) rfl ?_
        refine AW.isub dX2_work_139 rfl ?_
        refine AW.aload_n dX2_work_140 rfl rfl ?_
        refine AW.get ci2 22 (by decide) q1373 dX2_work_141 gM rfl rfl ?_
        refine AW.iload dX2_work_144 rfl rfl ?_
        refine AW.iconst (v := 1) dX2_work_146 (by decide) rfl ?_
        refine AW.isub dX2_work_147 rfl ?_
        refine AW.lald dX2_work_148 gv632 (by rw [nI_s1 (by omega)]; exact in0 (n - 1) (by omega) (by decide)) (j := n - 1) (by rw [nI_s1 (by omega)]; exact cI_nI (by omega)) rfl ?_
        refine AW.lneg dX2_work_149 rfl ?_
        refine AW.last dX2_work_150 (by decide) gv632 (by rw [nI_s1 (by omega)]; exact in0 (n - 1) (by omega) (by decide)) (j := n - 1) (by rw [nI_s1 (by omega)]; exact cI_nI (by omega)) sv632 rfl ?_
        refine AW.goto (tgt := 368) dX2_work_151 (by decide) ?_
        refine AW.iinc (v := 1) dX2_work_368 rfl (by decide) rfl rfl rfl ?_
        refine AW.goto (tgt := 47) dX2_work_371 (by decide) ?_
        rw [stepE_2 c91 c129] at ihk
        exact AW.fg 7 rfl (AW.fg 8 rfl (AW.ls (by simp only [← nI_succ]; rfl) ihk))
    · have ok := okE_0 c91 hk2
      refine AW.aload_n dX2_work_94 rfl rfl ?_
      refine AW.get ci2 22 (by decide) q1373 dX2_work_95 gM rfl rfl ?_
      refine AW.iload dX2_work_98 rfl rfl ?_
      refine AW.iload dX2_work_100 rfl rfl ?_
      refine AW.if_ne (tgt := 111) dX2_work_102 (by decide) rfl (fun c102 => ?_) (fun c102 => ?_)
      · refine AW.aload_n dX2_work_111 rfl rfl ?_
        refine AW.get ci2 21 (by decide) q1372 dX2_work_112 gM rfl rfl ?_
        refine AW.iload dX2_work_115 rfl rfl ?_
        refine AW.iald dX2_work_117 gv631 (vp_in_iff.mpr (ok.2.1 c102)) rfl rfl ?_
        refine AW.i2l dX2_work_118 rfl ?_
        refine AW.last dX2_work_119 (by decide) gv632 (by exact in0 (n) (by omega) (by decide)) (j := n) (by exact cI_nI (by omega)) sv632 rfl ?_
        refine AW.iinc (v := 1) dX2_work_120 rfl (by decide) rfl rfl rfl ?_
        refine AW.goto (tgt := 368) dX2_work_123 (by decide) ?_
        refine AW.iinc (v := 1) dX2_work_368 rfl (by decide) rfl rfl rfl ?_
        refine AW.goto (tgt := 47) dX2_work_371 (by decide) ?_
        rw [stepE_1 c91 c102] at ihk
        exact AW.fg 7 rfl (AW.fg 8 rfl (AW.ls (by simp only [← nI_succ]; rfl) ihk))
      · refine AW.iload dX2_work_105 rfl rfl ?_
        refine AW.i2l dX2_work_107 rfl ?_
        refine AW.goto (tgt := 119) dX2_work_108 (by decide) ?_
        refine AW.last dX2_work_119 (by decide) gv632 (by exact in0 (n) (by omega) (by decide)) (j := n) (by exact cI_nI (by omega)) sv632 rfl ?_
        refine AW.iinc (v := 1) dX2_work_120 rfl (by decide) rfl rfl rfl ?_
        refine AW.goto (tgt := 368) dX2_work_123 (by decide) ?_
        refine AW.iinc (v := 1) dX2_work_368 rfl (by decide) rfl rfl rfl ?_
        refine AW.goto (tgt := 47) dX2_work_371 (by decide) ?_
        rw [stepE_0 c91 c102] at ihk
        exact AW.fg 7 rfl (AW.fg 8 rfl (AW.ls (by simp only [← nI_succ]; rfl) ihk))
