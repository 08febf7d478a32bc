/-! SYSTEM 19: the next token as a whole (printed by tools/x19.py) -/
set_option maxRecDepth 100000
theorem allUp_c {p q : Nat → Bool} : ∀ n, (∀ k, k < n → p k = q k) → allUp p n = allUp q n
  | 0, _ => rfl
  | n + 1, h => by
    show (allUp p n && p n) = (allUp q n && q n)
    rw [allUp_c n (fun k hk => h k (by omega)), h n (by omega)]
theorem matchW_c {f g : Nat → Int32} {p q : Nat} (h : ∀ j, p ≤ j → j < q → f j = g j) (w : List Nat) : matchW f p q w = matchW g p q w := by
  unfold matchW
  by_cases e : q - p = w.length
  · rw [allUp_c _ (fun k hk => by rw [h (p + k) (by omega) (by omega)])]
  · rw [dec_f e, Bool.false_and, Bool.false_and]
theorem sortW_c {f g : Nat → Int32} {p q : Nat} (h : ∀ j, p ≤ j → j < q → f j = g j) : ∀ k, sortW f p q k = sortW g p q k
  | 0 => rfl
  | k + 1 => by
    show (if matchW f p q (wdL k) = true then nI (200 + k) else sortW f p q k) = (if matchW g p q (wdL k) = true then nI (200 + k) else sortW g p q k)
    rw [matchW_c h, sortW_c h k]
def sgV (v : Int32) : Int32 := if v = 0 then 301 else if v = 1 then 300 else if v = 4 then 303 else if v = 5 then 304 else if v = 3 ∨ v = 58 then 302 else v
theorem sortS_v {t : Nat → Int32} {L : Lq} (h : ¬ L.2.2.1 = 2) : sortS t L = sgV L.2.2.1 := by
  unfold sortS sgV
  rw [if_neg h]
theorem sg_v : ∀ b, b < 256 → isLet (nI b) = false → isFig (nI b) = false → sgV (if isSig (nI b) = true then nI b else 3) = sgW (sxI (nI b)) 11 ∧ ¬ (if isSig (nI b) = true then nI b else 3) = 2 := by decide +kernel
/-- the number that is kept -/
def nuS (B : Nat → Int32) (n p : Nat) (nu : Int32) : Int32 := if p ≠ n ∧ isFig (B p) = true then acc isFig B numS n p 0 else nu
theorem lex_n {B : Nat → Int32} {n : Nat} {L : Lq} : lexT B n n L = (nI n, nI n, 0, L.2.2.2.1, L.2.2.2.2) := by unfold lexT; rw [if_pos rfl]
theorem lex_f {B : Nat → Int32} {n p : Nat} {L : Lq} (h : p < n) (hf : isFig (B p) = true) : lexT B n p L = (nI (spn isFig B n p), nI p, 1, acc isFig B numM n p 0, L.2.2.2.2) := by unfold lexT; rw [if_neg (by omega), if_pos hf]
theorem lex_l {B : Nat → Int32} {n p : Nat} {L : Lq} (h : p < n) (hf : isFig (B p) = false) (hl : isLet (B p) = true) : lexT B n p L = (nI (spn isLet B n p), nI p, 2, L.2.2.2.1, acc isLet B wordM n p 0) := by unfold lexT; rw [if_neg (by omega), if_neg (by rw [hf]; decide), if_pos hl]
theorem lex_2 {B : Nat → Int32} {n p : Nat} {L : Lq} (h : p < n) (hf : isFig (B p) = false) (hl : isLet (B p) = false) (h2 : (B p = 60 ∨ B p = 62) ∧ B (p + 1) = 61) : lexT B n p L = (nI (p + 2), nI p, if B p = 60 then 4 else 5, L.2.2.2.1, L.2.2.2.2) := by unfold lexT; rw [if_neg (by omega), if_neg (by rw [hf]; decide), if_neg (by rw [hl]; decide), if_pos h2]
theorem lex_1 {B : Nat → Int32} {n p : Nat} {L : Lq} (h : p < n) (hf : isFig (B p) = false) (hl : isLet (B p) = false) (h2 : ¬ ((B p = 60 ∨ B p = 62) ∧ B (p + 1) = 61)) : lexT B n p L = (nI (p + 1), nI p, if isSig (B p) = true then B p else 3, L.2.2.2.1, L.2.2.2.2) := by unfold lexT; rw [if_neg (by omega), if_neg (by rw [hf]; decide), if_neg (by rw [hl]; decide), if_neg h2]
theorem let_nofig {c : Int32} (h : isLet c = true) : isFig c = false := by
  have := let_b h
  cases hq : isFig c
  · rfl
  · unfold isFig at hq
    simp only [Bool.and_eq_true, decide_eq_true_eq] at hq
    have h1 := Int32.le_iff_toInt_le.mp hq.2
    have h2 : (57 : Int32).toInt = 57 := rfl
    rw [this.2.2, nI_t (by omega)] at h1
    omega
section NEXT2
theorem nx_e {s : Sg} {T n : Nat} {t : Nat → Int32} (hT : 640 ≤ T) {tk so nu op kd : Int32} {L : Lq} : AW 9 mX3_next (hp (tkS s T n (nI n) (tk) (so) (nu) (op) (kd))) 52 [some (.ref T), none, none] [] (.inl none) (hp (tkS s T n ((lexT (byteF t n) n n L).1) ((lexT (byteF t n) n n L).2.1) (sortS (byteF t n) (lexT (byteF t n) n n L)) (nuS (byteF t n) n n nu) (op) (kd))) := by
  rw [lex_n]
  refine AW.aload_n dX3_next_52 rfl rfl ?_
  refine AW.aload_n dX3_next_53 rfl rfl ?_
  refine AW.get ci3 2 (by decide) q306 dX3_next_54 (gTk hT) rfl rfl ?_
  refine AW.put ci3 3 (by decide) q307 dX3_next_57 (by omega) (gTk hT) rfl (fun _ => rfl) (fun _ => rfl) (Nat.le_of_ble_eq_true rfl) (sTk3 hT) rfl ?_
  refine AW.aload_n dX3_next_60 rfl rfl ?_
  refine AW.get ci3 2 (by decide) q306 dX3_next_61 (gTk hT) rfl rfl ?_
  refine AW.aload_n dX3_next_64 rfl rfl ?_
  refine AW.get ci3 1 (by decide) q305 dX3_next_65 (gTk hT) rfl rfl ?_
  refine AW.icmp_ne (tgt := 81) dX3_next_68 (by decide) rfl (fun c_ => by first | exact absurd c_ (rfl : nI n = nI n) | exact absurd (rfl : nI n = nI n) c_ | exact Bool.noConfusion (c_.symm.trans (rfl : nI n = nI n))) (fun _ => ?_)
  refine AW.aload_n dX3_next_71 rfl rfl ?_
  refine AW.sipush (v := 301) dX3_next_72 (by decide) rfl ?_
  refine AW.put ci3 4 (by decide) q308 dX3_next_75 (by omega) (gTk hT) rfl (fun _ => rfl) (fun _ => rfl) (Nat.le_of_ble_eq_true rfl) (sTk4 hT) rfl ?_
  refine AW.goto (tgt := 402) dX3_next_78 (by decide) ?_
  exact AW.vretE dX3_next_402 rfl rfl (by unfold nuS; rw [if_neg (fun z => z.1 rfl)]; rfl)
theorem nx_l {s : Sg} {T n : Nat} {t : Nat → Int32} (hT : 640 ≤ T) (hR : TpR s t n) (h300 : n ≤ 300) (hB : BH s.b) {tk so nu op kd : Int32} {L : Lq} {p : Nat} (hp_ : p < n) (hl : isLet ((byteF t n) p) = true) : AW 9 mX3_next (hp (tkS s T n (nI p) (tk) (so) (nu) (op) (kd))) 52 [some (.ref T), none, none] [] (.inl none) (hp (tkS s T n ((lexT (byteF t n) n p L).1) ((lexT (byteF t n) n p L).2.1) (sortS (byteF t n) (lexT (byteF t n) n p L)) (nuS (byteF t n) n p nu) (op) (kd))) := by
  have hl2 := (hR.let_ hp_).trans hl
  have hf := let_nofig hl
  rw [lex_l hp_ hf hl]
  have q1 := spn_ge (p := isLet) (B := (byteF t n)) (n := n) (k := p) (by omega)
  have q2 := spn_le (p := isLet) (B := (byteF t n)) (n := n) (k := p) (by omega)
  have qa := spn_all (q := isLet) (B := (byteF t n)) (n := n) _ p rfl (by omega)
  refine AW.aload_n dX3_next_52 rfl rfl ?_
  refine AW.aload_n dX3_next_53 rfl rfl ?_
  refine AW.get ci3 2 (by decide) q306 dX3_next_54 (gTk hT) rfl rfl ?_
  refine AW.put ci3 3 (by decide) q307 dX3_next_57 (by omega) (gTk hT) rfl (fun _ => rfl) (fun _ => rfl) (Nat.le_of_ble_eq_true rfl) (sTk3 hT) rfl ?_
  refine AW.aload_n dX3_next_60 rfl rfl ?_
  refine AW.get ci3 2 (by decide) q306 dX3_next_61 (gTk hT) rfl rfl ?_
  refine AW.aload_n dX3_next_64 rfl rfl ?_
  refine AW.get ci3 1 (by decide) q305 dX3_next_65 (gTk hT) rfl rfl ?_
  refine AW.icmp_ne (tgt := 81) dX3_next_68 (by decide) rfl (fun _ => ?_) (fun c_ => by first | exact absurd c_ (nI_ne (by omega) (by omega) (by omega)) | exact absurd (nI_ne (by omega) (by omega) (by omega)) c_ | exact absurd c_ (not_not_intro (nI_ne (by omega) (by omega) (by omega))) | exact Bool.noConfusion (c_.symm.trans (nI_ne (by omega) (by omega) (by omega))))
  refine AW.aload_n dX3_next_81 rfl rfl ?_
  refine AW.get ci3 0 (by decide) q304 dX3_next_82 (gTk hT) rfl rfl ?_
  refine AW.aload_n dX3_next_85 rfl rfl ?_
  refine AW.get ci3 2 (by decide) q306 dX3_next_86 (gTk hT) rfl rfl ?_
  refine AW.bald dX3_next_89 g619 (vp_in_nI (by omega) (by omega)) (j := p) (cI_nI (by omega)) rfl ?_
  refine AW.callS (Y := mX3_isLetter) (n := 1) (r_X3_isLetter _) (by decide) (by decide) q390 q391 q142 q392 dX3_next_90 (by decide +kernel) rfl rfl (Nat.le_of_ble_eq_true rfl) rfl ?_
  refine AW.if_eqB (tgt := 182) dX3_next_93 (by decide) rfl (fun c_ => by first | exact absurd c_ hl2 | exact absurd hl2 c_ | exact Bool.noConfusion (c_.symm.trans hl2)) (fun _ => ?_)
  refine nx_c hT hR h300 _ p rfl (by omega) ?_
  generalize spn isLet (byteF t n) n p = q at q1 q2 qa ⊢
  refine nx_w hT h300 hB q1 q2 ?_
  refine AW.vretE dX3_next_402 rfl rfl ?_
  rw [show nuS (byteF t n) n p nu = nu from if_neg (fun z => Bool.noConfusion (hf.symm.trans z.2)), show sortS (byteF t n) (nI q, nI p, 2, L.2.2.2.1, acc isLet (byteF t n) wordM n p 0) = sortW (byteF t n) (cI (nI p)) (cI (nI q)) 22 from rfl, cI_nI (by omega), cI_nI (by omega), sortW_c (fun j h1 h2 => hR.lo (by omega) (let_lo (qa j h1 h2)))]
theorem nx_f {s : Sg} {T n : Nat} {t : Nat → Int32} (hT : 640 ≤ T) (hR : TpR s t n) (h300 : n ≤ 300) (hB : BH s.b) {tk so nu op kd : Int32} {L : Lq} {p : Nat} (hp_ : p < n) (hf : isFig ((byteF t n) p) = true) : AW 9 mX3_next (hp (tkS s T n (nI p) (tk) (so) (nu) (op) (kd))) 52 [some (.ref T), none, none] [] (.inl none) (hp (tkS s T n ((lexT (byteF t n) n p L).1) ((lexT (byteF t n) n p L).2.1) (sortS (byteF t n) (lexT (byteF t n) n p L)) (nuS (byteF t n) n p nu) (op) (kd))) := by
  have hf2 := (hR.fig hp_).trans hf
  have hl : isLet ((byteF t n) p) = false := by
    cases hq : isLet ((byteF t n) p)
    · rfl
    · exact absurd (let_nofig hq) (by rw [hf]; decide)
  have hl2 := (hR.let_ hp_).trans hl
  rw [lex_f hp_ hf]
  refine AW.aload_n dX3_next_52 rfl rfl ?_
  refine AW.aload_n dX3_next_53 rfl rfl ?_
  refine AW.get ci3 2 (by decide) q306 dX3_next_54 (gTk hT) rfl rfl ?_
  refine AW.put ci3 3 (by decide) q307 dX3_next_57 (by omega) (gTk hT) rfl (fun _ => rfl) (fun _ => rfl) (Nat.le_of_ble_eq_true rfl) (sTk3 hT) rfl ?_
  refine AW.aload_n dX3_next_60 rfl rfl ?_
  refine AW.get ci3 2 (by decide) q306 dX3_next_61 (gTk hT) rfl rfl ?_
  refine AW.aload_n dX3_next_64 rfl rfl ?_
  refine AW.get ci3 1 (by decide) q305 dX3_next_65 (gTk hT) rfl rfl ?_
  refine AW.icmp_ne (tgt := 81) dX3_next_68 (by decide) rfl (fun _ => ?_) (fun c_ => by first | exact absurd c_ (nI_ne (by omega) (by omega) (by omega)) | exact absurd (nI_ne (by omega) (by omega) (by omega)) c_ | exact absurd c_ (not_not_intro (nI_ne (by omega) (by omega) (by omega))) | exact Bool.noConfusion (c_.symm.trans (nI_ne (by omega) (by omega) (by omega))))
  refine AW.aload_n dX3_next_81 rfl rfl ?_
  refine AW.get ci3 0 (by decide) q304 dX3_next_82 (gTk hT) rfl rfl ?_
  refine AW.aload_n dX3_next_85 rfl rfl ?_
  refine AW.get ci3 2 (by decide) q306 dX3_next_86 (gTk hT) rfl rfl ?_
  refine AW.bald dX3_next_89 g619 (vp_in_nI (by omega) (by omega)) (j := p) (cI_nI (by omega)) rfl ?_
  refine AW.callS (Y := mX3_isLetter) (n := 1) (r_X3_isLetter _) (by decide) (by decide) q390 q391 q142 q392 dX3_next_90 (by decide +kernel) rfl rfl (Nat.le_of_ble_eq_true rfl) rfl ?_
  refine AW.if_eqB (tgt := 182) dX3_next_93 (by decide) rfl (fun _ => ?_) (fun c_ => by first | exact absurd c_ hl2 | exact absurd hl2 c_ | exact absurd c_ (not_not_intro hl2) | exact Bool.noConfusion (c_.symm.trans hl2))
  refine AW.aload_n dX3_next_182 rfl rfl ?_
  refine AW.get ci3 0 (by decide) q304 dX3_next_183 (gTk hT) rfl rfl ?_
  refine AW.aload_n dX3_next_186 rfl rfl ?_
  refine AW.get ci3 2 (by decide) q306 dX3_next_187 (gTk hT) rfl rfl ?_
  refine AW.bald dX3_next_190 g619 (vp_in_nI (by omega) (by omega)) (j := p) (cI_nI (by omega)) rfl ?_
  refine AW.callS (Y := mX3_isDigit) (n := 1) (r_X3_isDigit _) (by decide) (by decide) q447 q448 q142 q449 dX3_next_191 (by decide +kernel) rfl rfl (Nat.le_of_ble_eq_true rfl) rfl ?_
  refine AW.if_eqB (tgt := 277) dX3_next_194 (by decide) rfl (fun c_ => by first | exact absurd c_ hf2 | exact absurd hf2 c_ | exact Bool.noConfusion (c_.symm.trans hf2)) (fun _ => ?_)
  refine AW.aload_n dX3_next_197 rfl rfl ?_
  refine AW.sipush (v := 300) dX3_next_198 (by decide) rfl ?_
  refine AW.put ci3 4 (by decide) q308 dX3_next_201 (by omega) (gTk hT) rfl (fun _ => rfl) (fun _ => rfl) (Nat.le_of_ble_eq_true rfl) (sTk4 hT) rfl ?_
  refine AW.aload_n dX3_next_204 rfl rfl ?_
  refine AW.iconst (v := 0) dX3_next_205 (by decide) rfl ?_
  refine AW.put ci3 5 (by decide) q309 dX3_next_206 (by omega) (gTk hT) rfl (fun _ => rfl) (fun _ => rfl) (Nat.le_of_ble_eq_true rfl) (sTk5 hT) rfl ?_
  refine nx_d hT hR h300 _ p 0 rfl (by omega) ?_
  refine AW.vretE dX3_next_402 rfl rfl ?_
  rw [show nuS (byteF t n) n p nu = acc isFig (byteF t n) numS n p 0 from if_pos ⟨by omega, hf⟩]
  rfl
theorem nx_o {s : Sg} {T n : Nat} {t : Nat → Int32} (hT : 640 ≤ T) (hR : TpR s t n) (h300 : n ≤ 300) (hB : BH s.b) {tk so nu op kd : Int32} {L : Lq} {p : Nat} (hp_ : p < n) (hf : isFig ((byteF t n) p) = false) (hl : isLet ((byteF t n) p) = false) : AW 9 mX3_next (hp (tkS s T n (nI p) (tk) (so) (nu) (op) (kd))) 52 [some (.ref T), none, none] [] (.inl none) (hp (tkS s T n ((lexT (byteF t n) n p L).1) ((lexT (byteF t n) n p L).2.1) (sortS (byteF t n) (lexT (byteF t n) n p L)) (nuS (byteF t n) n p nu) (op) (kd))) := by
  have hf2 := (hR.fig hp_).trans hf
  have hl2 := (hR.let_ hp_).trans hl
  have hnu : nuS (byteF t n) n p nu = nu := if_neg (fun z => Bool.noConfusion (hf.symm.trans z.2))
  rw [hnu]
  obtain ⟨b0, b1, b2⟩ := hR p hp_
  have e60 := hR.eq hp_ (l := 60) (by decide) (by decide)
  have e62 := hR.eq hp_ (l := 62) (by decide) (by decide)
  have hbv : (byteF t n) p = nI (cI (t p)) := (byteF_k hp_).trans (nI_cI b0).symm
  have hcv : s.A 619 p = sxI (nI (cI (t p))) := by rw [nI_cI b0]; exact b2
  have hlt : cI (t p) < 256 := by have := cI_of b0; omega
  have sv := sg_v (cI (t p)) hlt (by rw [← hbv]; exact hl) (by rw [← hbv]; exact hf)
  rw [← hbv, hbv, ← hcv, ← hbv] at sv
  have h1 : ∀ (_ : ¬ (((byteF t n) p = 60 ∨ (byteF t n) p = 62) ∧ (byteF t n) (p + 1) = 61)), (tkS s T n (nI (p + 1)) (nI p) (sgW (s.A 619 p) 11) (nu) (op) (kd)) = (tkS s T n ((lexT (byteF t n) n p L).1) ((lexT (byteF t n) n p L).2.1) (sortS (byteF t n) (lexT (byteF t n) n p L)) (nu) (op) (kd)) := fun z => by
    rw [lex_1 hp_ hf hl z, sortS_v (by exact sv.2)]
    show _ = tkS s T n (nI (p + 1)) (nI p) (sgV (if isSig ((byteF t n) p) = true then (byteF t n) p else 3)) nu op kd
    rw [sv.1]
  refine AW.aload_n dX3_next_52 rfl rfl ?_
  refine AW.aload_n dX3_next_53 rfl rfl ?_
  refine AW.get ci3 2 (by decide) q306 dX3_next_54 (gTk hT) rfl rfl ?_
  refine AW.put ci3 3 (by decide) q307 dX3_next_57 (by omega) (gTk hT) rfl (fun _ => rfl) (fun _ => rfl) (Nat.le_of_ble_eq_true rfl) (sTk3 hT) rfl ?_
  refine AW.aload_n dX3_next_60 rfl rfl ?_
  refine AW.get ci3 2 (by decide) q306 dX3_next_61 (gTk hT) rfl rfl ?_
  refine AW.aload_n dX3_next_64 rfl rfl ?_
  refine AW.get ci3 1 (by decide) q305 dX3_next_65 (gTk hT) rfl rfl ?_
  refine AW.icmp_ne (tgt := 81) dX3_next_68 (by decide) rfl (fun _ => ?_) (fun c_ => by first | exact absurd c_ (nI_ne (by omega) (by omega) (by omega)) | exact absurd (nI_ne (by omega) (by omega) (by omega)) c_ | exact absurd c_ (not_not_intro (nI_ne (by omega) (by omega) (by omega))) | exact Bool.noConfusion (c_.symm.trans (nI_ne (by omega) (by omega) (by omega))))
  refine AW.aload_n dX3_next_81 rfl rfl ?_
  refine AW.get ci3 0 (by decide) q304 dX3_next_82 (gTk hT) rfl rfl ?_
  refine AW.aload_n dX3_next_85 rfl rfl ?_
  refine AW.get ci3 2 (by decide) q306 dX3_next_86 (gTk hT) rfl rfl ?_
  refine AW.bald dX3_next_89 g619 (vp_in_nI (by omega) (by omega)) (j := p) (cI_nI (by omega)) rfl ?_
  refine AW.callS (Y := mX3_isLetter) (n := 1) (r_X3_isLetter _) (by decide) (by decide) q390 q391 q142 q392 dX3_next_90 (by decide +kernel) rfl rfl (Nat.le_of_ble_eq_true rfl) rfl ?_
  refine AW.if_eqB (tgt := 182) dX3_next_93 (by decide) rfl (fun _ => ?_) (fun c_ => by first | exact absurd c_ hl2 | exact absurd hl2 c_ | exact absurd c_ (not_not_intro hl2) | exact Bool.noConfusion (c_.symm.trans hl2))
  refine AW.aload_n dX3_next_182 rfl rfl ?_
  refine AW.get ci3 0 (by decide) q304 dX3_next_183 (gTk hT) rfl rfl ?_
  refine AW.aload_n dX3_next_186 rfl rfl ?_
  refine AW.get ci3 2 (by decide) q306 dX3_next_187 (gTk hT) rfl rfl ?_
  refine AW.bald dX3_next_190 g619 (vp_in_nI (by omega) (by omega)) (j := p) (cI_nI (by omega)) rfl ?_
  refine AW.callS (Y := mX3_isDigit) (n := 1) (r_X3_isDigit _) (by decide) (by decide) q447 q448 q142 q449 dX3_next_191 (by decide +kernel) rfl rfl (Nat.le_of_ble_eq_true rfl) rfl ?_
  refine AW.if_eqB (tgt := 277) dX3_next_194 (by decide) rfl (fun _ => ?_) (fun c_ => by first | exact absurd c_ hf2 | exact absurd hf2 c_ | exact absurd c_ (not_not_intro hf2) | exact Bool.noConfusion (c_.symm.trans hf2))
  refine AW.aload_n dX3_next_277 rfl rfl ?_
  refine AW.get ci3 0 (by decide) q304 dX3_next_278 (gTk hT) rfl rfl ?_
  refine AW.aload_n dX3_next_281 rfl rfl ?_
  refine AW.get ci3 2 (by decide) q306 dX3_next_282 (gTk hT) rfl rfl ?_
  refine AW.bald dX3_next_285 g619 (vp_in_nI (by omega) (by omega)) (j := p) (cI_nI (by omega)) rfl ?_
  refine AW.istore_n (i := 1) dX3_next_286 rfl rfl (Nat.le_of_ble_eq_true rfl) rfl rfl ?_
  refine AW.aload_n dX3_next_287 rfl rfl ?_
  refine AW.dup dX3_next_288 rfl rfl ?_
  refine AW.get ci3 2 (by decide) q306 dX3_next_289 (gTk hT) rfl rfl ?_
  refine AW.iconst (v := 1) dX3_next_292 (by decide) rfl ?_
  refine AW.iadd dX3_next_293 rfl ?_
  refine AW.put ci3 2 (by decide) q306 dX3_next_294 (by omega) (gTk hT) rfl (fun _ => rfl) (fun _ => rfl) (Nat.le_of_ble_eq_true rfl) (sTk2 hT) rfl ?_
  refine AW.hp (h2 := (hp (tkS s T n (nI (p + 1)) (nI p) (so) (nu) (op) (kd)))) (by rw [nI_succ]) ?_
  refine AW.aload_n dX3_next_297 rfl rfl ?_
  refine AW.sipush (v := 302) dX3_next_298 (by decide) rfl ?_
  refine AW.put ci3 4 (by decide) q308 dX3_next_301 (by omega) (gTk hT) rfl (fun _ => rfl) (fun _ => rfl) (Nat.le_of_ble_eq_true rfl) (sTk4 hT) rfl ?_
  refine nx_s hT h300 hB (q := p + 1) (p := p) (by omega) (by omega) ?_
  refine AW.iload_n dX3_next_336 rfl rfl ?_
  refine AW.bipush (v := 60) dX3_next_337 (by decide) rfl ?_
  refine AW.icmp_eq (tgt := 348) dX3_next_339 (by decide) rfl (fun c339 => ?_) (fun c339 => ?_)
  · refine AW.aload_n dX3_next_348 rfl rfl ?_
    refine AW.get ci3 2 (by decide) q306 dX3_next_349 (gTk hT) rfl rfl ?_
    refine AW.aload_n dX3_next_352 rfl rfl ?_
    refine AW.get ci3 1 (by decide) q305 dX3_next_353 (gTk hT) rfl rfl ?_
    refine AW.icmp_ge (tgt := 402) dX3_next_356 (by decide) rfl (fun c356 => ?_) (fun c356 => ?_)
    · exact AW.vretE dX3_next_402 rfl rfl (congrArg hp (h1 (fun z => by have q9 : ¬ p + 1 < n := fun q => nI_lt3 q (by omega) c356; rw [show (byteF t n) (p + 1) = -1 from if_neg q9] at z; exact absurd z.2 (by decide))))
    · refine AW.aload_n dX3_next_359 rfl rfl ?_
      refine AW.get ci3 0 (by decide) q304 dX3_next_360 (gTk hT) rfl rfl ?_
      refine AW.aload_n dX3_next_363 rfl rfl ?_
      refine AW.get ci3 2 (by decide) q306 dX3_next_364 (gTk hT) rfl rfl ?_
      refine AW.bald dX3_next_367 g619 (vp_in_nI (Nat.lt_of_not_le fun q => c356 (by rw [show n = p + 1 by omega]; exact Int32.le_refl _)) (by omega)) (j := p + 1) (cI_nI (by omega)) rfl ?_
      refine AW.bipush (v := 61) dX3_next_368 (by decide) rfl ?_
      refine AW.icmp_ne (tgt := 402) dX3_next_370 (by decide) rfl (fun c370 => ?_) (fun c370 => ?_)
      · have hk1 : p + 1 < n := Classical.byContradiction fun q => c356 (by rw [show n = p + 1 by omega]; exact Int32.le_refl _)
        exact AW.vretE dX3_next_402 rfl rfl (congrArg hp (h1 (fun z => c370 ((hR.eq hk1 (by decide) (by decide)).mpr z.2))))
      · refine AW.aload_n dX3_next_373 rfl rfl ?_
        refine AW.iload_n dX3_next_374 rfl rfl ?_
        refine AW.bipush (v := 60) dX3_next_375 (by decide) rfl ?_
        refine AW.icmp_ne (tgt := 386) dX3_next_377 (by decide) rfl (fun c377 => ?_) (fun c377 => ?_)
        · refine AW.sipush (v := 304) dX3_next_386 (by decide) rfl ?_
          refine AW.put ci3 4 (by decide) q308 dX3_next_389 (by omega) (gTk hT) rfl (fun _ => rfl) (fun _ => rfl) (Nat.le_of_ble_eq_true rfl) (sTk4 hT) rfl ?_
          refine AW.aload_n dX3_next_392 rfl rfl ?_
          refine AW.dup dX3_next_393 rfl rfl ?_
          refine AW.get ci3 2 (by decide) q306 dX3_next_394 (gTk hT) rfl rfl ?_
          refine AW.iconst (v := 1) dX3_next_397 (by decide) rfl ?_
          refine AW.iadd dX3_next_398 rfl ?_
          refine AW.put ci3 2 (by decide) q306 dX3_next_399 (by omega) (gTk hT) rfl (fun _ => rfl) (fun _ => rfl) (Nat.le_of_ble_eq_true rfl) (sTk2 hT) rfl ?_
          have hk1 : p + 1 < n := Classical.byContradiction fun q => c356 (by rw [show n = p + 1 by omega]; exact Int32.le_refl _)
          have hz : ((byteF t n) p = 60 ∨ (byteF t n) p = 62) ∧ (byteF t n) (p + 1) = 61 := ⟨Or.inl (e60.mp c339), (hR.eq hk1 (by decide) (by decide)).mp c370⟩
          rw [lex_2 hp_ hf hl hz]
          have hv : (if (byteF t n) p = 60 then (4 : Int32) else 5) = 5 := if_neg (fun z => c377 (e60.mpr z))
          rw [hv]
          exact AW.vretE dX3_next_402 rfl rfl (by rw [nI_succ' (p + 1)]; rfl)
        · refine AW.sipush (v := 303) dX3_next_380 (by decide) rfl ?_
          refine AW.goto (tgt := 389) dX3_next_383 (by decide) ?_
          refine AW.put ci3 4 (by decide) q308 dX3_next_389 (by omega) (gTk hT) rfl (fun _ => rfl) (fun _ => rfl) (Nat.le_of_ble_eq_true rfl) (sTk4 hT) rfl ?_
          refine AW.aload_n dX3_next_392 rfl rfl ?_
          refine AW.dup dX3_next_393 rfl rfl ?_
          refine AW.get ci3 2 (by decide) q306 dX3_next_394 (gTk hT) rfl rfl ?_
          refine AW.iconst (v := 1) dX3_next_397 (by decide) rfl ?_
          refine AW.iadd dX3_next_398 rfl ?_
          refine AW.put ci3 2 (by decide) q306 dX3_next_399 (by omega) (gTk hT) rfl (fun _ => rfl) (fun _ => rfl) (Nat.le_of_ble_eq_true rfl) (sTk2 hT) rfl ?_
          have hk1 : p + 1 < n := Classical.byContradiction fun q => c356 (by rw [show n = p + 1 by omega]; exact Int32.le_refl _)
          have hz : ((byteF t n) p = 60 ∨ (byteF t n) p = 62) ∧ (byteF t n) (p + 1) = 61 := ⟨Or.inl (e60.mp c339), (hR.eq hk1 (by decide) (by decide)).mp c370⟩
          rw [lex_2 hp_ hf hl hz]
          have hv : (if (byteF t n) p = 60 then (4 : Int32) else 5) = 4 := if_pos (e60.mp c377)
          rw [hv]
          exact AW.vretE dX3_next_402 rfl rfl (by rw [nI_succ' (p + 1)]; rfl)
  · refine AW.iload_n dX3_next_342 rfl rfl ?_
    refine AW.bipush (v := 62) dX3_next_343 (by decide) rfl ?_
    refine AW.icmp_ne (tgt := 402) dX3_next_345 (by decide) rfl (fun c345 => ?_) (fun c345 => ?_)
    · exact AW.vretE dX3_next_402 rfl rfl (congrArg hp (h1 (fun z => by rcases z.1 with y | y; exact c339 (e60.mpr y); exact c345 (e62.mpr y))))
    · refine AW.aload_n dX3_next_348 rfl rfl ?_
      refine AW.get ci3 2 (by decide) q306 dX3_next_349 (gTk hT) rfl rfl ?_
      refine AW.aload_n dX3_next_352 rfl rfl ?_
      refine AW.get ci3 1 (by decide) q305 dX3_next_353 (gTk hT) rfl rfl ?_
      refine AW.icmp_ge (tgt := 402) dX3_next_356 (by decide) rfl (fun c356 => ?_) (fun c356 => ?_)
      · exact AW.vretE dX3_next_402 rfl rfl (congrArg hp (h1 (fun z => by have q9 : ¬ p + 1 < n := fun q => nI_lt3 q (by omega) c356; rw [show (byteF t n) (p + 1) = -1 from if_neg q9] at z; exact absurd z.2 (by decide))))
      · refine AW.aload_n dX3_next_359 rfl rfl ?_
        refine AW.get ci3 0 (by decide) q304 dX3_next_360 (gTk hT) rfl rfl ?_
        refine AW.aload_n dX3_next_363 rfl rfl ?_
        refine AW.get ci3 2 (by decide) q306 dX3_next_364 (gTk hT) rfl rfl ?_
        refine AW.bald dX3_next_367 g619 (vp_in_nI (Nat.lt_of_not_le fun q => c356 (by rw [show n = p + 1 by omega]; exact Int32.le_refl _)) (by omega)) (j := p + 1) (cI_nI (by omega)) rfl ?_
        refine AW.bipush (v := 61) dX3_next_368 (by decide) rfl ?_
        refine AW.icmp_ne (tgt := 402) dX3_next_370 (by decide) rfl (fun c370 => ?_) (fun c370 => ?_)
        · have hk1 : p + 1 < n := Classical.byContradiction fun q => c356 (by rw [show n = p + 1 by omega]; exact Int32.le_refl _)
          exact AW.vretE dX3_next_402 rfl rfl (congrArg hp (h1 (fun z => c370 ((hR.eq hk1 (by decide) (by decide)).mpr z.2))))
        · refine AW.aload_n dX3_next_373 rfl rfl ?_
          refine AW.iload_n dX3_next_374 rfl rfl ?_
          refine AW.bipush (v := 60) dX3_next_375 (by decide) rfl ?_
          refine AW.icmp_ne (tgt := 386) dX3_next_377 (by decide) rfl (fun c377 => ?_) (fun c377 => ?_)
          · refine AW.sipush (v := 304) dX3_next_386 (by decide) rfl ?_
            refine AW.put ci3 4 (by decide) q308 dX3_next_389 (by omega) (gTk hT) rfl (fun _ => rfl) (fun _ => rfl) (Nat.le_of_ble_eq_true rfl) (sTk4 hT) rfl ?_
            refine AW.aload_n dX3_next_392 rfl rfl ?_
            refine AW.dup dX3_next_393 rfl rfl ?_
            refine AW.get ci3 2 (by decide) q306 dX3_next_394 (gTk hT) rfl rfl ?_
            refine AW.iconst (v := 1) dX3_next_397 (by decide) rfl ?_
            refine AW.iadd dX3_next_398 rfl ?_
            refine AW.put ci3 2 (by decide) q306 dX3_next_399 (by omega) (gTk hT) rfl (fun _ => rfl) (fun _ => rfl) (Nat.le_of_ble_eq_true rfl) (sTk2 hT) rfl ?_
            have hk1 : p + 1 < n := Classical.byContradiction fun q => c356 (by rw [show n = p + 1 by omega]; exact Int32.le_refl _)
            have hz : ((byteF t n) p = 60 ∨ (byteF t n) p = 62) ∧ (byteF t n) (p + 1) = 61 := ⟨Or.inr (e62.mp c345), (hR.eq hk1 (by decide) (by decide)).mp c370⟩
            rw [lex_2 hp_ hf hl hz]
            have hv : (if (byteF t n) p = 60 then (4 : Int32) else 5) = 5 := if_neg (fun z => c377 (e60.mpr z))
            rw [hv]
            exact AW.vretE dX3_next_402 rfl rfl (by rw [nI_succ' (p + 1)]; rfl)
          · refine AW.sipush (v := 303) dX3_next_380 (by decide) rfl ?_
            refine AW.goto (tgt := 389) dX3_next_383 (by decide) ?_
            refine AW.put ci3 4 (by decide) q308 dX3_next_389 (by omega) (gTk hT) rfl (fun _ => rfl) (fun _ => rfl) (Nat.le_of_ble_eq_true rfl) (sTk4 hT) rfl ?_
            refine AW.aload_n dX3_next_392 rfl rfl ?_
            refine AW.dup dX3_next_393 rfl rfl ?_
            refine AW.get ci3 2 (by decide) q306 dX3_next_394 (gTk hT) rfl rfl ?_
            refine AW.iconst (v := 1) dX3_next_397 (by decide) rfl ?_
            refine AW.iadd dX3_next_398 rfl ?_
            refine AW.put ci3 2 (by decide) q306 dX3_next_399 (by omega) (gTk hT) rfl (fun _ => rfl) (fun _ => rfl) (Nat.le_of_ble_eq_true rfl) (sTk2 hT) rfl ?_
            have hk1 : p + 1 < n := Classical.byContradiction fun q => c356 (by rw [show n = p + 1 by omega]; exact Int32.le_refl _)
            have hz : ((byteF t n) p = 60 ∨ (byteF t n) p = 62) ∧ (byteF t n) (p + 1) = 61 := ⟨Or.inr (e62.mp c345), (hR.eq hk1 (by decide) (by decide)).mp c370⟩
            rw [lex_2 hp_ hf hl hz]
            have hv : (if (byteF t n) p = 60 then (4 : Int32) else 5) = 4 := if_pos (e60.mp c377)
            rw [hv]
            exact AW.vretE dX3_next_402 rfl rfl (by rw [nI_succ' (p + 1)]; rfl)
end NEXT2
theorem r_X3_next {s : Sg} {T n : Nat} {t : Nat → Int32} (hT : 640 ≤ T) (hR : TpR s t n) (h300 : n ≤ 300) (hB : BH s.b) {tk so nu op kd : Int32} (L : Lq) (k : Nat) (hk : k ≤ n) : Run 9 mX3_next [.ref T] (hp (tkS s T n (nI k) (tk) (so) (nu) (op) (kd))) (.inl none) (hp (tkS s T n ((lexL t n k L).1) ((lexL t n k L).2.1) (sortS (byteF t n) (lexL t n k L)) (nuS (byteF t n) n (spn isWs (byteF t n) n k) nu) (op) (kd))) := by
  refine Run.of rfl (Nat.le_of_ble_eq_true rfl) rfl ?_
  refine nx_a hT hR h300 _ k rfl hk ?_
  unfold lexL
  have q2 := spn_le (p := isWs) (B := (byteF t n)) (n := n) (k := k) hk
  generalize spn isWs (byteF t n) n k = p at q2 ⊢
  by_cases e : p = n
  · subst e; exact nx_e hT
  · have hp_ : p < n := by omega
    cases hf : isFig ((byteF t n) p)
    · cases hl : isLet ((byteF t n) p)
      · exact nx_o hT hR h300 hB hp_ hf hl
      · exact nx_l hT hR h300 hB hp_ hl
    · exact nx_f hT hR h300 hB hp_ hf
/-- a number as the model counts it, and cut off -/
theorem numS_s {v c : Int32} (h0 : 0 ≤ v.toInt) (h1 : v.toInt ≤ 1000000) (hc : isFig c = true) : numS (minI 99999 v) c = minI 99999 (numM v c) ∧ 0 ≤ (numM v c).toInt ∧ (numM v c).toInt ≤ 1000000 := by
  have t9 : (99999 : Int32).toInt = 99999 := rfl
  have t48 : (48 : Int32).toInt = 48 := rfl
  have t57 : (57 : Int32).toInt = 57 := rfl
  have t10 : (10 : Int32).toInt = 10 := rfl
  unfold isFig at hc
  simp only [Bool.and_eq_true, decide_eq_true_eq, Int32.le_iff_toInt_le, t48, t57] at hc
  have m10 : ∀ w : Int32, 0 ≤ w.toInt → w.toInt ≤ 1000000 → (10 * w + c - 48).toInt = 10 * w.toInt + c.toInt - 48 := fun w w0 w1 => by
    have a1 : (10 * w).toInt = 10 * w.toInt := by rw [mulI] <;> rw [t10] <;> omega
    have a2 : (10 * w + c).toInt = 10 * w.toInt + c.toInt := by rw [addI] <;> rw [a1] <;> omega
    rw [subI] <;> rw [a2, t48] <;> omega
  unfold numS numM minI
  by_cases h : (99999 : Int32) < v
  · have h' := Int32.lt_iff_toInt_lt.mp h
    rw [t9] at h'
    have hv : ¬ v < 99999 := by rw [Int32.lt_iff_toInt_lt, t9]; omega
    have hA : ¬ 10 * (99999 : Int32) + c - 48 < 99999 := by rw [Int32.lt_iff_toInt_lt, m10 99999 (by decide) (by decide), t9]; omega
    rw [show (if v < 99999 then v else (99999 : Int32)) = 99999 from if_neg hv, if_pos h, if_neg hA, if_neg hv]
    exact ⟨rfl, h0, h1⟩
  · have h' := Int32.not_lt.mp h
    rw [Int32.le_iff_toInt_le, t9] at h'
    rw [if_neg h]
    have mv := m10 v h0 h1
    refine ⟨?_, by omega, by omega⟩
    by_cases e : v < 99999
    · rw [if_pos e]
    · have e2 : v = 99999 := Int32.toInt_inj.mp (by rw [Int32.lt_iff_toInt_lt, t9] at e; rw [t9]; omega)
      rw [if_neg e, e2]
theorem acc_nu {B : Nat → Int32} {n : Nat} : ∀ (m k : Nat) (v : Int32), n - k = m → 0 ≤ v.toInt → v.toInt ≤ 1000000 → acc isFig B numS n k (minI 99999 v) = minI 99999 (acc isFig B numM n k v)
  | 0, k, v, hm, h0, h1 => by
    unfold acc
    rw [hm]
    rfl
  | m + 1, k, v, hm, h0, h1 => by
    cases hf : isFig (B k)
    · rw [acc_f (by omega) hf, acc_f (by omega) hf]
    · have hs := numS_s h0 h1 hf
      rw [acc_t (by omega) hf, acc_t (by omega) hf, hs.1]
      exact acc_nu m (k + 1) _ (by omega) hs.2.1 hs.2.2
/-- the number kept is the token's, where the token is one -/
def NuOk (L : Lq) (nu : Int32) : Prop := L.2.2.1 = 1 → nu = minI 99999 L.2.2.2.1
theorem nu_lex {B : Nat → Int32} {n p : Nat} {L : Lq} {nu : Int32} : NuOk (lexT B n p L) (nuS B n p nu) := by
  intro h
  unfold lexT at h ⊢
  by_cases e : p = n
  · rw [if_pos e] at h
    exact absurd (show (0 : Int32) = 1 from h) (by decide)
  rw [if_neg e] at h ⊢
  by_cases hf : isFig (B p) = true
  · rw [if_pos hf]
    rw [show nuS B n p nu = acc isFig B numS n p 0 from if_pos ⟨e, hf⟩]
    exact acc_nu _ p 0 rfl (by decide) (by decide)
  rw [if_neg hf] at h ⊢
  by_cases hl : isLet (B p) = true
  · rw [if_pos hl] at h
    exact absurd (show (2 : Int32) = 1 from h) (by decide)
  rw [if_neg hl] at h
  exfalso
  split at h
  · split at h
    · exact absurd (show (4 : Int32) = 1 from h) (by decide)
    · exact absurd (show (5 : Int32) = 1 from h) (by decide)
  · split at h
    · rename_i _ hs
      have h' : B p = 1 := h
      rw [h'] at hs
      exact absurd hs (by decide)
    · exact absurd (show (3 : Int32) = 1 from h) (by decide)
