/-! MODEL 29: words (printed by tools/m29.py) -/
set_option maxRecDepth 100000
def w2F (x y : Int32) : Int64 := x.toInt64 <<< 8 ||| y.toInt64
def w3F (x y z : Int32) : Int64 := w2F x y <<< 8 ||| z.toInt64
def w4F (x y z w : Int32) : Int64 := w3F x y z <<< 8 ||| w.toInt64
def w5F (x y z w v : Int32) : Int64 := w4F x y z w <<< 8 ||| v.toInt64
def w6F (x y z w v u : Int32) : Int64 := w5F x y z w v <<< 8 ||| u.toInt64
def isWd (L : Lq) (x : Int64) : Bool := decide (L.2.2.1 = 2) && decide (L.2.2.2.2 = x)
def isLongF (B : Nat → Int32) (L : Lq) (p : Nat) (f g : Int64) : Bool := decide (L.2.2.1 = 2) && (decide (L.1 - L.2.1 = 7) && (decide (w4F (B p) (B (p + 1)) (B (p + 2)) (B (p + 3)) = f) && decide (w3F (B (p + 4)) (B (p + 5)) (B (p + 6)) = g)))
def isFrF (B : Nat → Int32) (L : Lq) (p : Nat) : Bool := isLongF B L p (w4F 102 114 105 101) (w3F 110 100 115)
def isDiF (B : Nat → Int32) (L : Lq) (p : Nat) : Bool := isLongF B L p (w4F 100 105 118 105) (w3F 100 101 115)
def nameF (B : Nat → Int32) (L : Lq) (p : Nat) : Int32 := if L.2.2.1 = 2 then (if L.2.2.2.2 = w3F 100 97 121 then 0 else if L.2.2.2.2 = w4F 100 97 116 101 then 1 else if L.2.2.2.2 = w5F 104 111 117 115 101 then 2 else if L.2.2.2.2 = w5F 112 117 114 115 101 then 3 else if isFrF B L p = true then 4 else if L.2.2.2.2 = w4F 100 97 121 115 then 5 else if L.2.2.2.2 = w4F 111 112 101 110 then 6 else if L.2.2.2.2 = w6F 98 101 115 105 100 101 then 7 else -1) else -1
def rankF (o : Int32) : Int32 := if 40 ≤ o then 0 else if o = 22 then 1 else if o = 21 then 2 else if o = 20 then 3 else if 10 ≤ o then 4 else if o = 2 ∨ o = 7 then 7 else if 5 ≤ o then 6 else 5
def cmpF (B : Nat → Int32) (L : Lq) (p : Nat) : Int32 := if L.2.2.1 = 60 then 10 else if L.2.2.1 = 4 then 11 else if L.2.2.1 = 62 then 12 else if L.2.2.1 = 5 then 13 else if L.2.2.1 = 61 then 14 else if L.2.2.1 = 35 then 15 else if isDiF B L p = true then 16 else -1
def sortF (L : Lq) : Int32 := if isWd L (w5F 101 97 114 110 115) = true then 0 else if isWd L (w5F 108 111 115 101 115) = true then 1 else if isWd L (w4F 108 101 116 115) = true then 2 else if isWd L (w5F 104 111 117 115 101) = true then 3 else if isWd L (w5F 107 110 111 99 107) = true then 4 else if isWd L (w5F 109 97 114 114 121) = true then 5 else if isWd L (w3F 104 97 116) = true then 6 else if isWd L (w6F 102 111 114 103 101 116) = true then 7 else if isWd L (w3F 100 97 121) = true then 8 else -1
theorem r_X2_w2 {h : AH} (x y : Int32) : Run 1 mX2_w2 [.int x, .int y] h (.inl (some (.long (w2F x y)))) h := by
  refine Run.of rfl (Nat.le_of_ble_eq_true rfl) rfl ?_
  refine AW.iload_n dX2_w2_0 rfl rfl ?_
  refine AW.i2l dX2_w2_1 rfl ?_
  refine AW.bipush (v := 8) dX2_w2_2 (by decide) rfl ?_
  refine AW.lshl dX2_w2_4 rfl ?_
  refine AW.iload_n dX2_w2_5 rfl rfl ?_
  refine AW.i2l dX2_w2_6 rfl ?_
  refine AW.lor dX2_w2_7 rfl ?_
  exact AW.lretE dX2_w2_8 rfl rfl rfl rfl
theorem r_X2_w3 {h : AH} (x y z : Int32) : Run 2 mX2_w3 [.int x, .int y, .int z] h (.inl (some (.long (w3F x y z)))) h := by
  refine Run.of rfl (Nat.le_of_ble_eq_true rfl) rfl ?_
  refine AW.iload_n dX2_w3_0 rfl rfl ?_
  refine AW.iload_n dX2_w3_1 rfl rfl ?_
  refine AW.callS (Y := mX2_w2) (n := 2) (r_X2_w2 _ _) (by decide) (by decide) q1537 q1538 q141 q1539 dX2_w3_2 (by decide +kernel) rfl rfl (Nat.le_of_ble_eq_true rfl) rfl ?_
  refine AW.bipush (v := 8) dX2_w3_5 (by decide) rfl ?_
  refine AW.lshl dX2_w3_7 rfl ?_
  refine AW.iload_n dX2_w3_8 rfl rfl ?_
  refine AW.i2l dX2_w3_9 rfl ?_
  refine AW.lor dX2_w3_10 rfl ?_
  exact AW.lretE dX2_w3_11 rfl rfl rfl rfl
theorem r_X2_w4 {h : AH} (x y z w : Int32) : Run 3 mX2_w4 [.int x, .int y, .int z, .int w] h (.inl (some (.long (w4F x y z w)))) h := by
  refine Run.of rfl (Nat.le_of_ble_eq_true rfl) rfl ?_
  refine AW.iload_n dX2_w4_0 rfl rfl ?_
  refine AW.iload_n dX2_w4_1 rfl rfl ?_
  refine AW.iload_n dX2_w4_2 rfl rfl ?_
  refine AW.callS (Y := mX2_w3) (n := 3) (r_X2_w3 _ _ _) (by decide) (by decide) q1534 q1535 q141 q1536 dX2_w4_3 (by decide +kernel) rfl rfl (Nat.le_of_ble_eq_true rfl) rfl ?_
  refine AW.bipush (v := 8) dX2_w4_6 (by decide) rfl ?_
  refine AW.lshl dX2_w4_8 rfl ?_
  refine AW.iload_n dX2_w4_9 rfl rfl ?_
  refine AW.i2l dX2_w4_10 rfl ?_
  refine AW.lor dX2_w4_11 rfl ?_
  exact AW.lretE dX2_w4_12 rfl rfl rfl rfl
theorem r_X2_w5 {h : AH} (x y z w v : Int32) : Run 4 mX2_w5 [.int x, .int y, .int z, .int w, .int v] h (.inl (some (.long (w5F x y z w v)))) h := by
  refine Run.of rfl (Nat.le_of_ble_eq_true rfl) rfl ?_
  refine AW.iload_n dX2_w5_0 rfl rfl ?_
  refine AW.iload_n dX2_w5_1 rfl rfl ?_
  refine AW.iload_n dX2_w5_2 rfl rfl ?_
  refine AW.iload_n dX2_w5_3 rfl rfl ?_
  refine AW.callS (Y := mX2_w4) (n := 4) (r_X2_w4 _ _ _ _) (by decide) (by decide) q1531 q1532 q141 q1533 dX2_w5_4 (by decide +kernel) rfl rfl (Nat.le_of_ble_eq_true rfl) rfl ?_
  refine AW.bipush (v := 8) dX2_w5_7 (by decide) rfl ?_
  refine AW.lshl dX2_w5_9 rfl ?_
  refine AW.iload dX2_w5_10 rfl rfl ?_
  refine AW.i2l dX2_w5_12 rfl ?_
  refine AW.lor dX2_w5_13 rfl ?_
  exact AW.lretE dX2_w5_14 rfl rfl rfl rfl
theorem r_X2_w6 {h : AH} (x y z w v u : Int32) : Run 5 mX2_w6 [.int x, .int y, .int z, .int w, .int v, .int u] h (.inl (some (.long (w6F x y z w v u)))) h := by
  refine Run.of rfl (Nat.le_of_ble_eq_true rfl) rfl ?_
  refine AW.iload_n dX2_w6_0 rfl rfl ?_
  refine AW.iload_n dX2_w6_1 rfl rfl ?_
  refine AW.iload_n dX2_w6_2 rfl rfl ?_
  refine AW.iload_n dX2_w6_3 rfl rfl ?_
  refine AW.iload dX2_w6_4 rfl rfl ?_
  refine AW.callS (Y := mX2_w5) (n := 5) (r_X2_w5 _ _ _ _ _) (by decide) (by decide) q1528 q1529 q141 q1530 dX2_w6_6 (by decide +kernel) rfl rfl (Nat.le_of_ble_eq_true rfl) rfl ?_
  refine AW.bipush (v := 8) dX2_w6_9 (by decide) rfl ?_
  refine AW.lshl dX2_w6_11 rfl ?_
  refine AW.iload dX2_w6_12 rfl rfl ?_
  refine AW.i2l dX2_w6_14 rfl ?_
  refine AW.lor dX2_w6_15 rfl ?_
  exact AW.lretE dX2_w6_16 rfl rfl rfl rfl
theorem r_X2_isWord {s : Sg} {L : Lq} {G : Gq} (x : Int64) : Run 1 mX2_isWord [.ref 625, .long x] (hp (ps s L G)) (.inl (some (.int (b2i (isWd L x))))) (hp (ps s L G)) := by
  refine Run.of rfl (Nat.le_of_ble_eq_true rfl) rfl ?_
  refine AW.aload_n dX2_isWord_0 rfl rfl ?_
  refine AW.get ci2 9 (by decide) q1360 dX2_isWord_1 gM rfl rfl ?_
  refine AW.iconst (v := 2) dX2_isWord_4 (by decide) rfl ?_
  refine AW.icmp_ne (tgt := 21) dX2_isWord_5 (by decide) rfl (fun c5 => ?_) (fun c5 => ?_)
  · refine AW.iconst (v := 0) dX2_isWord_21 (by decide) rfl ?_
    exact AW.bretE dX2_isWord_22 rfl rfl (by unfold isWd; (try rw [lg_cmp_eq] at c14); first | (rw [decide_eq_false (show ¬ L.2.2.1 = 2 from c5)]; rfl) | (rw [decide_eq_true (show L.2.2.1 = 2 from c5), decide_eq_true (show L.2.2.2.2 = x from c14)]; rfl) | (rw [decide_eq_true (show L.2.2.1 = 2 from c5), decide_eq_false (show ¬ L.2.2.2.2 = x from c14)]; rfl)) rfl
  · refine AW.aload_n dX2_isWord_8 rfl rfl ?_
    refine AW.get ci2 11 (by decide) q1362 dX2_isWord_9 gM rfl rfl ?_
    refine AW.lload_n dX2_isWord_12 rfl rfl ?_
    refine AW.lcmp dX2_isWord_13 rfl ?_
    refine AW.if_ne (tgt := 21) dX2_isWord_14 (by decide) rfl (fun c14 => ?_) (fun c14 => ?_)
    · refine AW.iconst (v := 0) dX2_isWord_21 (by decide) rfl ?_
      exact AW.bretE dX2_isWord_22 rfl rfl (by unfold isWd; (try rw [lg_cmp_eq] at c14); first | (rw [decide_eq_false (show ¬ L.2.2.1 = 2 from c5)]; rfl) | (rw [decide_eq_true (show L.2.2.1 = 2 from c5), decide_eq_true (show L.2.2.2.2 = x from c14)]; rfl) | (rw [decide_eq_true (show L.2.2.1 = 2 from c5), decide_eq_false (show ¬ L.2.2.2.2 = x from c14)]; rfl)) rfl
    · refine AW.iconst (v := 1) dX2_isWord_17 (by decide) rfl ?_
      refine AW.goto (tgt := 22) dX2_isWord_18 (by decide) ?_
      exact AW.bretE dX2_isWord_22 rfl rfl (by unfold isWd; (try rw [lg_cmp_eq] at c14); first | (rw [decide_eq_false (show ¬ L.2.2.1 = 2 from c5)]; rfl) | (rw [decide_eq_true (show L.2.2.1 = 2 from c5), decide_eq_true (show L.2.2.2.2 = x from c14)]; rfl) | (rw [decide_eq_true (show L.2.2.1 = 2 from c5), decide_eq_false (show ¬ L.2.2.2.2 = x from c14)]; rfl)) rfl
theorem AW.stT {d : Nat} {M : Mt} {h : AH} {pc : Nat} {ls : List (Option Value)} {x y : Value} {st : List Value} {o : OR} {h2 : AH} (e : y = x) (k : AW d M h pc ls (x :: st) o h2) : AW d M h pc ls (y :: st) o h2 := e ▸ k
theorem r_X2_isLong {s : Sg} {L : Lq} {G : Gq} (n : Nat) (hn : s.S 4 = nI n) (h300 : n ≤ 300) (p : Nat) (hp1 : L.2.1 = nI p) (hpl : p ≤ n) (f g : Int64) : Run 4 mX2_isLong [.ref 625, .long f, .long g] (hp (ps s L G)) (.inl (some (.int (b2i (isLongF (byteF (s.A 629) n) L p f g))))) (hp (ps s L G)) := by
  refine Run.of rfl (Nat.le_of_ble_eq_true rfl) rfl ?_
  refine AW.aload_n dX2_isLong_0 rfl rfl ?_
  refine AW.get ci2 9 (by decide) q1360 dX2_isLong_1 gM rfl rfl ?_
  refine AW.iconst (v := 2) dX2_isLong_4 (by decide) rfl ?_
  refine AW.icmp_ne (tgt := 22) dX2_isLong_5 (by decide) rfl (fun c5 => ?_) (fun c5 => ?_)
  · refine AW.iconst (v := 0) dX2_isLong_22 (by decide) rfl ?_
    exact AW.bretE dX2_isLong_23 rfl rfl (by (try rw [lg_cmp_eq] at c67); (try rw [lg_cmp_eq] at c106); unfold isLongF; first | (rw [decide_eq_false (show ¬ L.2.2.1 = 2 from c5)]; rfl) | (rw [decide_eq_false (show ¬ L.1 - L.2.1 = 7 from c19), Bool.false_and, Bool.and_false]; rfl) | (rw [decide_eq_false c67, Bool.false_and, Bool.and_false, Bool.and_false]; rfl) | (rw [decide_eq_false c106, Bool.and_false, Bool.and_false, Bool.and_false]; rfl) | (rw [decide_eq_true (show L.2.2.1 = 2 from c5), decide_eq_true (show L.1 - L.2.1 = 7 from c19), decide_eq_true c67, decide_eq_true c106]; rfl)) rfl
  · refine AW.aload_n dX2_isLong_8 rfl rfl ?_
    refine AW.get ci2 7 (by decide) q1358 dX2_isLong_9 gM rfl rfl ?_
    refine AW.aload_n dX2_isLong_12 rfl rfl ?_
    refine AW.get ci2 8 (by decide) q1359 dX2_isLong_13 gM rfl rfl ?_
    refine AW.isub dX2_isLong_16 rfl ?_
    refine AW.bipush (v := 7) dX2_isLong_17 (by decide) rfl ?_
    refine AW.icmp_eq (tgt := 24) dX2_isLong_19 (by decide) rfl (fun c19 => ?_) (fun c19 => ?_)
    · refine AW.aload_n dX2_isLong_24 rfl rfl ?_
      refine AW.aload_n dX2_isLong_25 rfl rfl ?_
      refine AW.get ci2 8 (by decide) q1359 dX2_isLong_26 gM rfl rfl ?_
      refine AW.stT (x := .int (nI p)) (by show Value.int L.2.1 = _; rw [hp1]) ?_
      refine AW.callV (Y := mX2_byteAt) (n := 1) (r_X2_byteAt n hn h300 p (by omega)) (by decide) (by decide) rfl gM q1505 q1507 qs67 q141 q1508 dX2_isLong_29 (by decide +kernel) rfl rfl (Nat.le_of_ble_eq_true rfl) rfl ?_
      refine AW.aload_n dX2_isLong_32 rfl rfl ?_
      refine AW.aload_n dX2_isLong_33 rfl rfl ?_
      refine AW.get ci2 8 (by decide) q1359 dX2_isLong_34 gM rfl rfl ?_
      refine AW.iconst (v := 1) dX2_isLong_37 (by decide) rfl ?_
      refine AW.iadd dX2_isLong_38 rfl ?_
      refine AW.stT (x := .int (nI (p + 1))) (by have e := hp1; show Value.int (L.2.1 + 1) = _; rw [e, show (1 : Int32) = nI 1 from rfl, nI_add]) ?_
      refine AW.callV (Y := mX2_byteAt) (n := 1) (by have q := r_X2_byteAt (s := s) (L := L) (G := G) n hn h300 (p + 1) (by omega); exact q) (by decide) (by decide) rfl gM q1505 q1507 qs67 q141 q1508 dX2_isLong_39 (by decide +kernel) rfl rfl (Nat.le_of_ble_eq_true rfl) rfl ?_
      refine AW.aload_n dX2_isLong_42 rfl rfl ?_
      refine AW.aload_n dX2_isLong_43 rfl rfl ?_
      refine AW.get ci2 8 (by decide) q1359 dX2_isLong_44 gM rfl rfl ?_
      refine AW.iconst (v := 2) dX2_isLong_47 (by decide) rfl ?_
      refine AW.iadd dX2_isLong_48 rfl ?_
      refine AW.stT (x := .int (nI (p + 2))) (by have e := hp1; show Value.int (L.2.1 + 2) = _; rw [e, show (2 : Int32) = nI 2 from rfl, nI_add]) ?_
      refine AW.callV (Y := mX2_byteAt) (n := 1) (by have q := r_X2_byteAt (s := s) (L := L) (G := G) n hn h300 (p + 2) (by omega); exact q) (by decide) (by decide) rfl gM q1505 q1507 qs67 q141 q1508 dX2_isLong_49 (by decide +kernel) rfl rfl (Nat.le_of_ble_eq_true rfl) rfl ?_
      refine AW.aload_n dX2_isLong_52 rfl rfl ?_
      refine AW.aload_n dX2_isLong_53 rfl rfl ?_
      refine AW.get ci2 8 (by decide) q1359 dX2_isLong_54 gM rfl rfl ?_
      refine AW.iconst (v := 3) dX2_isLong_57 (by decide) rfl ?_
      refine AW.iadd dX2_isLong_58 rfl ?_
      refine AW.stT (x := .int (nI (p + 3))) (by have e := hp1; show Value.int (L.2.1 + 3) = _; rw [e, show (3 : Int32) = nI 3 from rfl, nI_add]) ?_
      refine AW.callV (Y := mX2_byteAt) (n := 1) (by have q := r_X2_byteAt (s := s) (L := L) (G := G) n hn h300 (p + 3) (by omega); exact q) (by decide) (by decide) rfl gM q1505 q1507 qs67 q141 q1508 dX2_isLong_59 (by decide +kernel) rfl rfl (Nat.le_of_ble_eq_true rfl) rfl ?_
      refine AW.callS (Y := mX2_w4) (n := 4) (r_X2_w4 _ _ _ _) (by decide) (by decide) q1531 q1532 q141 q1533 dX2_isLong_62 (by decide +kernel) rfl rfl (Nat.le_of_ble_eq_true rfl) rfl ?_
      refine AW.lload_n dX2_isLong_65 rfl rfl ?_
      refine AW.lcmp dX2_isLong_66 rfl ?_
      refine AW.if_ne (tgt := 113) dX2_isLong_67 (by decide) rfl (fun c67 => ?_) (fun c67 => ?_)
      · refine AW.iconst (v := 0) dX2_isLong_113 (by decide) rfl ?_
        exact AW.bretE dX2_isLong_114 rfl rfl (by (try rw [lg_cmp_eq] at c67); (try rw [lg_cmp_eq] at c106); unfold isLongF; first | (rw [decide_eq_false (show ¬ L.2.2.1 = 2 from c5)]; rfl) | (rw [decide_eq_false (show ¬ L.1 - L.2.1 = 7 from c19), Bool.false_and, Bool.and_false]; rfl) | (rw [decide_eq_false c67, Bool.false_and, Bool.and_false, Bool.and_false]; rfl) | (rw [decide_eq_false c106, Bool.and_false, Bool.and_false, Bool.and_false]; rfl) | (rw [decide_eq_true (show L.2.2.1 = 2 from c5), decide_eq_true (show L.1 - L.2.1 = 7 from c19), decide_eq_true c67, decide_eq_true c106]; rfl)) rfl
      · refine AW.aload_n dX2_isLong_70 rfl rfl ?_
        refine AW.aload_n dX2_isLong_71 rfl rfl ?_
        refine AW.get ci2 8 (by decide) q1359 dX2_isLong_72 gM rfl rfl ?_
        refine AW.iconst (v := 4) dX2_isLong_75 (by decide) rfl ?_
        refine AW.iadd dX2_isLong_76 rfl ?_
        refine AW.stT (x := .int (nI (p + 4))) (by have e := hp1; show Value.int (L.2.1 + 4) = _; rw [e, show (4 : Int32) = nI 4 from rfl, nI_add]) ?_
        refine AW.callV (Y := mX2_byteAt) (n := 1) (by have q := r_X2_byteAt (s := s) (L := L) (G := G) n hn h300 (p + 4) (by omega); exact q) (by decide) (by decide) rfl gM q1505 q1507 qs67 q141 q1508 dX2_isLong_77 (by decide +kernel) rfl rfl (Nat.le_of_ble_eq_true rfl) rfl ?_
        refine AW.aload_n dX2_isLong_80 rfl rfl ?_
        refine AW.aload_n dX2_isLong_81 rfl rfl ?_
        refine AW.get ci2 8 (by decide) q1359 dX2_isLong_82 gM rfl rfl ?_
        refine AW.iconst (v := 5) dX2_isLong_85 (by decide) rfl ?_
        refine AW.iadd dX2_isLong_86 rfl ?_
        refine AW.stT (x := .int (nI (p + 5))) (by have e := hp1; show Value.int (L.2.1 + 5) = _; rw [e, show (5 : Int32) = nI 5 from rfl, nI_add]) ?_
        refine AW.callV (Y := mX2_byteAt) (n := 1) (by have q := r_X2_byteAt (s := s) (L := L) (G := G) n hn h300 (p + 5) (by omega); exact q) (by decide) (by decide) rfl gM q1505 q1507 qs67 q141 q1508 dX2_isLong_87 (by decide +kernel) rfl rfl (Nat.le_of_ble_eq_true rfl) rfl ?_
        refine AW.aload_n dX2_isLong_90 rfl rfl ?_
        refine AW.aload_n dX2_isLong_91 rfl rfl ?_
        refine AW.get ci2 8 (by decide) q1359 dX2_isLong_92 gM rfl rfl ?_
        refine AW.bipush (v := 6) dX2_isLong_95 (by decide) rfl ?_
        refine AW.iadd dX2_isLong_97 rfl ?_
        refine AW.stT (x := .int (nI (p + 6))) (by have e := hp1; show Value.int (L.2.1 + 6) = _; rw [e, show (6 : Int32) = nI 6 from rfl, nI_add]) ?_
        refine AW.callV (Y := mX2_byteAt) (n := 1) (by have q := r_X2_byteAt (s := s) (L := L) (G := G) n hn h300 (p + 6) (by omega); exact q) (by decide) (by decide) rfl gM q1505 q1507 qs67 q141 q1508 dX2_isLong_98 (by decide +kernel) rfl rfl (Nat.le_of_ble_eq_true rfl) rfl ?_
        refine AW.callS (Y := mX2_w3) (n := 3) (r_X2_w3 _ _ _) (by decide) (by decide) q1534 q1535 q141 q1536 dX2_isLong_101 (by decide +kernel) rfl rfl (Nat.le_of_ble_eq_true rfl) rfl ?_
        refine AW.lload_n dX2_isLong_104 rfl rfl ?_
        refine AW.lcmp dX2_isLong_105 rfl ?_
        refine AW.if_ne (tgt := 113) dX2_isLong_106 (by decide) rfl (fun c106 => ?_) (fun c106 => ?_)
        · refine AW.iconst (v := 0) dX2_isLong_113 (by decide) rfl ?_
          exact AW.bretE dX2_isLong_114 rfl rfl (by (try rw [lg_cmp_eq] at c67); (try rw [lg_cmp_eq] at c106); unfold isLongF; first | (rw [decide_eq_false (show ¬ L.2.2.1 = 2 from c5)]; rfl) | (rw [decide_eq_false (show ¬ L.1 - L.2.1 = 7 from c19), Bool.false_and, Bool.and_false]; rfl) | (rw [decide_eq_false c67, Bool.false_and, Bool.and_false, Bool.and_false]; rfl) | (rw [decide_eq_false c106, Bool.and_false, Bool.and_false, Bool.and_false]; rfl) | (rw [decide_eq_true (show L.2.2.1 = 2 from c5), decide_eq_true (show L.1 - L.2.1 = 7 from c19), decide_eq_true c67, decide_eq_true c106]; rfl)) rfl
        · refine AW.iconst (v := 1) dX2_isLong_109 (by decide) rfl ?_
          refine AW.goto (tgt := 114) dX2_isLong_110 (by decide) ?_
          exact AW.bretE dX2_isLong_114 rfl rfl (by (try rw [lg_cmp_eq] at c67); (try rw [lg_cmp_eq] at c106); unfold isLongF; first | (rw [decide_eq_false (show ¬ L.2.2.1 = 2 from c5)]; rfl) | (rw [decide_eq_false (show ¬ L.1 - L.2.1 = 7 from c19), Bool.false_and, Bool.and_false]; rfl) | (rw [decide_eq_false c67, Bool.false_and, Bool.and_false, Bool.and_false]; rfl) | (rw [decide_eq_false c106, Bool.and_false, Bool.and_false, Bool.and_false]; rfl) | (rw [decide_eq_true (show L.2.2.1 = 2 from c5), decide_eq_true (show L.1 - L.2.1 = 7 from c19), decide_eq_true c67, decide_eq_true c106]; rfl)) rfl
    · refine AW.iconst (v := 0) dX2_isLong_22 (by decide) rfl ?_
      exact AW.bretE dX2_isLong_23 rfl rfl (by (try rw [lg_cmp_eq] at c67); (try rw [lg_cmp_eq] at c106); unfold isLongF; first | (rw [decide_eq_false (show ¬ L.2.2.1 = 2 from c5)]; rfl) | (rw [decide_eq_false (show ¬ L.1 - L.2.1 = 7 from c19), Bool.false_and, Bool.and_false]; rfl) | (rw [decide_eq_false c67, Bool.false_and, Bool.and_false, Bool.and_false]; rfl) | (rw [decide_eq_false c106, Bool.and_false, Bool.and_false, Bool.and_false]; rfl) | (rw [decide_eq_true (show L.2.2.1 = 2 from c5), decide_eq_true (show L.1 - L.2.1 = 7 from c19), decide_eq_true c67, decide_eq_true c106]; rfl)) rfl
theorem r_X2_isFriends {s : Sg} {L : Lq} {G : Gq} (n : Nat) (hn : s.S 4 = nI n) (h300 : n ≤ 300) (p : Nat) (hp1 : L.2.1 = nI p) (hpl : p ≤ n) : Run 5 mX2_isFriends [.ref 625] (hp (ps s L G)) (.inl (some (.int (b2i (isFrF (byteF (s.A 629) n) L p))))) (hp (ps s L G)) := by
  refine Run.of rfl (Nat.le_of_ble_eq_true rfl) rfl ?_
  refine AW.aload_n dX2_isFriends_0 rfl rfl ?_
  refine AW.bipush (v := 102) dX2_isFriends_1 (by decide) rfl ?_
  refine AW.bipush (v := 114) dX2_isFriends_3 (by decide) rfl ?_
  refine AW.bipush (v := 105) dX2_isFriends_5 (by decide) rfl ?_
  refine AW.bipush (v := 101) dX2_isFriends_7 (by decide) rfl ?_
  refine AW.callS (Y := mX2_w4) (n := 4) (r_X2_w4 _ _ _ _) (by decide) (by decide) q1531 q1532 q141 q1533 dX2_isFriends_9 (by decide +kernel) rfl rfl (Nat.le_of_ble_eq_true rfl) rfl ?_
  refine AW.bipush (v := 110) dX2_isFriends_12 (by decide) rfl ?_
  refine AW.bipush (v := 100) dX2_isFriends_14 (by decide) rfl ?_
  refine AW.bipush (v := 115) dX2_isFriends_16 (by decide) rfl ?_
  refine AW.callS (Y := mX2_w3) (n := 3) (r_X2_w3 _ _ _) (by decide) (by decide) q1534 q1535 q141 q1536 dX2_isFriends_18 (by decide +kernel) rfl rfl (Nat.le_of_ble_eq_true rfl) rfl ?_
  refine AW.callV (Y := mX2_isLong) (n := 2) (r_X2_isLong n hn h300 p hp1 hpl _ _) (by decide) (by decide) rfl gM q1570 q1572 qs76 q141 q1573 dX2_isFriends_21 (by decide +kernel) rfl rfl (Nat.le_of_ble_eq_true rfl) rfl ?_
  exact AW.bretE dX2_isFriends_24 rfl rfl rfl rfl
theorem r_X2_nameOf {s : Sg} {L : Lq} {G : Gq} (n : Nat) (hn : s.S 4 = nI n) (h300 : n ≤ 300) (p : Nat) (hp1 : L.2.1 = nI p) (hpl : p ≤ n) : Run 6 mX2_nameOf [.ref 625] (hp (ps s L G)) (.inl (some (.int (nameF (byteF (s.A 629) n) L p)))) (hp (ps s L G)) := by
  refine Run.of rfl (Nat.le_of_ble_eq_true rfl) rfl ?_
  refine AW.aload_n dX2_nameOf_0 rfl rfl ?_
  refine AW.get ci2 9 (by decide) q1360 dX2_nameOf_1 gM rfl rfl ?_
  refine AW.iconst (v := 2) dX2_nameOf_4 (by decide) rfl ?_
  refine AW.icmp_eq (tgt := 10) dX2_nameOf_5 (by decide) rfl (fun k5 => ?_) (fun k5 => ?_)
  · refine AW.aload_n dX2_nameOf_10 rfl rfl ?_
    refine AW.get ci2 11 (by decide) q1362 dX2_nameOf_11 gM rfl rfl ?_
    refine AW.bipush (v := 100) dX2_nameOf_14 (by decide) rfl ?_
    refine AW.bipush (v := 97) dX2_nameOf_16 (by decide) rfl ?_
    refine AW.bipush (v := 121) dX2_nameOf_18 (by decide) rfl ?_
    refine AW.callS (Y := mX2_w3) (n := 3) (r_X2_w3 _ _ _) (by decide) (by decide) q1534 q1535 q141 q1536 dX2_nameOf_20 (by decide +kernel) rfl rfl (Nat.le_of_ble_eq_true rfl) rfl ?_
    refine AW.lcmp dX2_nameOf_23 rfl ?_
    refine AW.if_ne (tgt := 29) dX2_nameOf_24 (by decide) rfl (fun k24 => ?_) (fun k24 => ?_)
    · refine AW.aload_n dX2_nameOf_29 rfl rfl ?_
      refine AW.get ci2 11 (by decide) q1362 dX2_nameOf_30 gM rfl rfl ?_
      refine AW.bipush (v := 100) dX2_nameOf_33 (by decide) rfl ?_
      refine AW.bipush (v := 97) dX2_nameOf_35 (by decide) rfl ?_
      refine AW.bipush (v := 116) dX2_nameOf_37 (by decide) rfl ?_
      refine AW.bipush (v := 101) dX2_nameOf_39 (by decide) rfl ?_
      refine AW.callS (Y := mX2_w4) (n := 4) (r_X2_w4 _ _ _ _) (by decide) (by decide) q1531 q1532 q141 q1533 dX2_nameOf_41 (by decide +kernel) rfl rfl (Nat.le_of_ble_eq_true rfl) rfl ?_
      refine AW.lcmp dX2_nameOf_44 rfl ?_
      refine AW.if_ne (tgt := 50) dX2_nameOf_45 (by decide) rfl (fun k45 => ?_) (fun k45 => ?_)
      · refine AW.aload_n dX2_nameOf_50 rfl rfl ?_
        refine AW.get ci2 11 (by decide) q1362 dX2_nameOf_51 gM rfl rfl ?_
        refine AW.bipush (v := 104) dX2_nameOf_54 (by decide) rfl ?_
        refine AW.bipush (v := 111) dX2_nameOf_56 (by decide) rfl ?_
        refine AW.bipush (v := 117) dX2_nameOf_58 (by decide) rfl ?_
        refine AW.bipush (v := 115) dX2_nameOf_60 (by decide) rfl ?_
        refine AW.bipush (v := 101) dX2_nameOf_62 (by decide) rfl ?_
        refine AW.callS (Y := mX2_w5) (n := 5) (r_X2_w5 _ _ _ _ _) (by decide) (by decide) q1528 q1529 q141 q1530 dX2_nameOf_64 (by decide +kernel) rfl rfl (Nat.le_of_ble_eq_true rfl) rfl ?_
        refine AW.lcmp dX2_nameOf_67 rfl ?_
        refine AW.if_ne (tgt := 73) dX2_nameOf_68 (by decide) rfl (fun k68 => ?_) (fun k68 => ?_)
        · refine AW.aload_n dX2_nameOf_73 rfl rfl ?_
          refine AW.get ci2 11 (by decide) q1362 dX2_nameOf_74 gM rfl rfl ?_
          refine AW.bipush (v := 112) dX2_nameOf_77 (by decide) rfl ?_
          refine AW.bipush (v := 117) dX2_nameOf_79 (by decide) rfl ?_
          refine AW.bipush (v := 114) dX2_nameOf_81 (by decide) rfl ?_
          refine AW.bipush (v := 115) dX2_nameOf_83 (by decide) rfl ?_
          refine AW.bipush (v := 101) dX2_nameOf_85 (by decide) rfl ?_
          refine AW.callS (Y := mX2_w5) (n := 5) (r_X2_w5 _ _ _ _ _) (by decide) (by decide) q1528 q1529 q141 q1530 dX2_nameOf_87 (by decide +kernel) rfl rfl (Nat.le_of_ble_eq_true rfl) rfl ?_
          refine AW.lcmp dX2_nameOf_90 rfl ?_
          refine AW.if_ne (tgt := 96) dX2_nameOf_91 (by decide) rfl (fun k91 => ?_) (fun k91 => ?_)
          · refine AW.aload_n dX2_nameOf_96 rfl rfl ?_
            refine AW.callV (Y := mX2_isFriends) (n := 0) (r_X2_isFriends n hn h300 p hp1 hpl) (by decide) (by decide) rfl gM q1566 q1568 qs75 q141 q1569 dX2_nameOf_97 (by decide +kernel) rfl rfl (Nat.le_of_ble_eq_true rfl) rfl ?_
            refine AW.if_eqB (tgt := 105) dX2_nameOf_100 (by decide) rfl (fun k100 => ?_) (fun k100 => ?_)
            · refine AW.aload_n dX2_nameOf_105 rfl rfl ?_
              refine AW.get ci2 11 (by decide) q1362 dX2_nameOf_106 gM rfl rfl ?_
              refine AW.bipush (v := 100) dX2_nameOf_109 (by decide) rfl ?_
              refine AW.bipush (v := 97) dX2_nameOf_111 (by decide) rfl ?_
              refine AW.bipush (v := 121) dX2_nameOf_113 (by decide) rfl ?_
              refine AW.bipush (v := 115) dX2_nameOf_115 (by decide) rfl ?_
              refine AW.callS (Y := mX2_w4) (n := 4) (r_X2_w4 _ _ _ _) (by decide) (by decide) q1531 q1532 q141 q1533 dX2_nameOf_117 (by decide +kernel) rfl rfl (Nat.le_of_ble_eq_true rfl) rfl ?_
              refine AW.lcmp dX2_nameOf_120 rfl ?_
              refine AW.if_ne (tgt := 126) dX2_nameOf_121 (by decide) rfl (fun k121 => ?_) (fun k121 => ?_)
              · refine AW.aload_n dX2_nameOf_126 rfl rfl ?_
                refine AW.get ci2 11 (by decide) q1362 dX2_nameOf_127 gM rfl rfl ?_
                refine AW.bipush (v := 111) dX2_nameOf_130 (by decide) rfl ?_
                refine AW.bipush (v := 112) dX2_nameOf_132 (by decide) rfl ?_
                refine AW.bipush (v := 101) dX2_nameOf_134 (by decide) rfl ?_
                refine AW.bipush (v := 110) dX2_nameOf_136 (by decide) rfl ?_
                refine AW.callS (Y := mX2_w4) (n := 4) (r_X2_w4 _ _ _ _) (by decide) (by decide) q1531 q1532 q141 q1533 dX2_nameOf_138 (by decide +kernel) rfl rfl (Nat.le_of_ble_eq_true rfl) rfl ?_
                refine AW.lcmp dX2_nameOf_141 rfl ?_
                refine AW.if_ne (tgt := 150) dX2_nameOf_142 (by decide) rfl (fun k142 => ?_) (fun k142 => ?_)
                · refine AW.aload_n dX2_nameOf_150 rfl rfl ?_
                  refine AW.get ci2 11 (by decide) q1362 dX2_nameOf_151 gM rfl rfl ?_
                  refine AW.bipush (v := 98) dX2_nameOf_154 (by decide) rfl ?_
                  refine AW.bipush (v := 101) dX2_nameOf_156 (by decide) rfl ?_
                  refine AW.bipush (v := 115) dX2_nameOf_158 (by decide) rfl ?_
                  refine AW.bipush (v := 105) dX2_nameOf_160 (by decide) rfl ?_
                  refine AW.bipush (v := 100) dX2_nameOf_162 (by decide) rfl ?_
                  refine AW.bipush (v := 101) dX2_nameOf_164 (by decide) rfl ?_
                  refine AW.callS (Y := mX2_w6) (n := 6) (r_X2_w6 _ _ _ _ _ _) (by decide) (by decide) q1544 q1545 q141 q1546 dX2_nameOf_166 (by decide +kernel) rfl rfl (Nat.le_of_ble_eq_true rfl) rfl ?_
                  refine AW.lcmp dX2_nameOf_169 rfl ?_
                  refine AW.if_ne (tgt := 178) dX2_nameOf_170 (by decide) rfl (fun k170 => ?_) (fun k170 => ?_)
                  · refine AW.iconst (v := (-1)) dX2_nameOf_178 (by decide) rfl ?_
                    exact AW.iretE dX2_nameOf_179 rfl rfl (by (try simp only [lg_cmp_eq] at *); exact ((if_pos k5).trans ((if_neg k24).trans ((if_neg k45).trans ((if_neg k68).trans ((if_neg k91).trans ((if_neg (fun z => Bool.noConfusion (k100.symm.trans z))).trans ((if_neg k121).trans ((if_neg k142).trans (if_neg k170))))))))).symm) rfl
                  · refine AW.bipush (v := 7) dX2_nameOf_173 (by decide) rfl ?_
                    refine AW.goto (tgt := 179) dX2_nameOf_175 (by decide) ?_
                    exact AW.iretE dX2_nameOf_179 rfl rfl (by (try simp only [lg_cmp_eq] at *); exact ((if_pos k5).trans ((if_neg k24).trans ((if_neg k45).trans ((if_neg k68).trans ((if_neg k91).trans ((if_neg (fun z => Bool.noConfusion (k100.symm.trans z))).trans ((if_neg k121).trans ((if_neg k142).trans (if_pos k170))))))))).symm) rfl
                · refine AW.bipush (v := 6) dX2_nameOf_145 (by decide) rfl ?_
                  refine AW.goto (tgt := 179) dX2_nameOf_147 (by decide) ?_
                  exact AW.iretE dX2_nameOf_179 rfl rfl (by (try simp only [lg_cmp_eq] at *); exact ((if_pos k5).trans ((if_neg k24).trans ((if_neg k45).trans ((if_neg k68).trans ((if_neg k91).trans ((if_neg (fun z => Bool.noConfusion (k100.symm.trans z))).trans ((if_neg k121).trans (if_pos k142)))))))).symm) rfl
              · refine AW.iconst (v := 5) dX2_nameOf_124 (by decide) rfl ?_
                exact AW.iretE dX2_nameOf_125 rfl rfl (by (try simp only [lg_cmp_eq] at *); exact ((if_pos k5).trans ((if_neg k24).trans ((if_neg k45).trans ((if_neg k68).trans ((if_neg k91).trans ((if_neg (fun z => Bool.noConfusion (k100.symm.trans z))).trans (if_pos k121))))))).symm) rfl
            · refine AW.iconst (v := 4) dX2_nameOf_103 (by decide) rfl ?_
              exact AW.iretE dX2_nameOf_104 rfl rfl (by (try simp only [lg_cmp_eq] at *); exact ((if_pos k5).trans ((if_neg k24).trans ((if_neg k45).trans ((if_neg k68).trans ((if_neg k91).trans (if_pos k100)))))).symm) rfl
          · refine AW.iconst (v := 3) dX2_nameOf_94 (by decide) rfl ?_
            exact AW.iretE dX2_nameOf_95 rfl rfl (by (try simp only [lg_cmp_eq] at *); exact ((if_pos k5).trans ((if_neg k24).trans ((if_neg k45).trans ((if_neg k68).trans (if_pos k91))))).symm) rfl
        · refine AW.iconst (v := 2) dX2_nameOf_71 (by decide) rfl ?_
          exact AW.iretE dX2_nameOf_72 rfl rfl (by (try simp only [lg_cmp_eq] at *); exact ((if_pos k5).trans ((if_neg k24).trans ((if_neg k45).trans (if_pos k68)))).symm) rfl
      · refine AW.iconst (v := 1) dX2_nameOf_48 (by decide) rfl ?_
        exact AW.iretE dX2_nameOf_49 rfl rfl (by (try simp only [lg_cmp_eq] at *); exact ((if_pos k5).trans ((if_neg k24).trans (if_pos k45))).symm) rfl
    · refine AW.iconst (v := 0) dX2_nameOf_27 (by decide) rfl ?_
      exact AW.iretE dX2_nameOf_28 rfl rfl (by (try simp only [lg_cmp_eq] at *); exact ((if_pos k5).trans (if_pos k24)).symm) rfl
  · refine AW.iconst (v := (-1)) dX2_nameOf_8 (by decide) rfl ?_
    exact AW.iretE dX2_nameOf_9 rfl rfl (by (try simp only [lg_cmp_eq] at *); exact (if_neg k5).symm) rfl
theorem r_X2_rank {h : AH} (o : Int32) : Run 1 mX2_rank [.int o] h (.inl (some (.int (rankF o)))) h := by
  refine Run.of rfl (Nat.le_of_ble_eq_true rfl) rfl ?_
  refine AW.iload_n dX2_rank_0 rfl rfl ?_
  refine AW.bipush (v := 40) dX2_rank_1 (by decide) rfl ?_
  refine AW.icmp_lt (tgt := 10) dX2_rank_3 (by decide) rfl (fun k3 => ?_) (fun k3 => ?_)
  · refine AW.iload_n dX2_rank_10 rfl rfl ?_
    refine AW.bipush (v := 22) dX2_rank_11 (by decide) rfl ?_
    refine AW.icmp_ne (tgt := 20) dX2_rank_13 (by decide) rfl (fun k13 => ?_) (fun k13 => ?_)
    · refine AW.iload_n dX2_rank_20 rfl rfl ?_
      refine AW.bipush (v := 21) dX2_rank_21 (by decide) rfl ?_
      refine AW.icmp_ne (tgt := 30) dX2_rank_23 (by decide) rfl (fun k23 => ?_) (fun k23 => ?_)
      · refine AW.iload_n dX2_rank_30 rfl rfl ?_
        refine AW.bipush (v := 20) dX2_rank_31 (by decide) rfl ?_
        refine AW.icmp_ne (tgt := 40) dX2_rank_33 (by decide) rfl (fun k33 => ?_) (fun k33 => ?_)
        · refine AW.iload_n dX2_rank_40 rfl rfl ?_
          refine AW.bipush (v := 10) dX2_rank_41 (by decide) rfl ?_
          refine AW.icmp_lt (tgt := 50) dX2_rank_43 (by decide) rfl (fun k43 => ?_) (fun k43 => ?_)
          · refine AW.iload_n dX2_rank_50 rfl rfl ?_
            refine AW.iconst (v := 2) dX2_rank_51 (by decide) rfl ?_
            refine AW.icmp_eq (tgt := 61) dX2_rank_52 (by decide) rfl (fun k52 => ?_) (fun k52 => ?_)
            · refine AW.bipush (v := 7) dX2_rank_61 (by decide) rfl ?_
              refine AW.goto (tgt := 77) dX2_rank_63 (by decide) ?_
              exact AW.iretE dX2_rank_77 rfl rfl (by exact ((if_neg (Int32.not_le.mpr k3)).trans ((if_neg k13).trans ((if_neg k23).trans ((if_neg k33).trans ((if_neg (Int32.not_le.mpr k43)).trans (if_pos (Or.inl k52))))))).symm) rfl
            · refine AW.iload_n dX2_rank_55 rfl rfl ?_
              refine AW.bipush (v := 7) dX2_rank_56 (by decide) rfl ?_
              refine AW.icmp_ne (tgt := 66) dX2_rank_58 (by decide) rfl (fun k58 => ?_) (fun k58 => ?_)
              · refine AW.iload_n dX2_rank_66 rfl rfl ?_
                refine AW.iconst (v := 5) dX2_rank_67 (by decide) rfl ?_
                refine AW.icmp_lt (tgt := 76) dX2_rank_68 (by decide) rfl (fun k68 => ?_) (fun k68 => ?_)
                · refine AW.iconst (v := 5) dX2_rank_76 (by decide) rfl ?_
                  exact AW.iretE dX2_rank_77 rfl rfl (by exact ((if_neg (Int32.not_le.mpr k3)).trans ((if_neg k13).trans ((if_neg k23).trans ((if_neg k33).trans ((if_neg (Int32.not_le.mpr k43)).trans ((if_neg (fun z => by rcases z with z | z; exact k52 z; exact k58 z)).trans (if_neg (Int32.not_le.mpr k68)))))))).symm) rfl
                · refine AW.bipush (v := 6) dX2_rank_71 (by decide) rfl ?_
                  refine AW.goto (tgt := 77) dX2_rank_73 (by decide) ?_
                  exact AW.iretE dX2_rank_77 rfl rfl (by exact ((if_neg (Int32.not_le.mpr k3)).trans ((if_neg k13).trans ((if_neg k23).trans ((if_neg k33).trans ((if_neg (Int32.not_le.mpr k43)).trans ((if_neg (fun z => by rcases z with z | z; exact k52 z; exact k58 z)).trans (if_pos (Int32.not_lt.mp k68)))))))).symm) rfl
              · refine AW.bipush (v := 7) dX2_rank_61 (by decide) rfl ?_
                refine AW.goto (tgt := 77) dX2_rank_63 (by decide) ?_
                exact AW.iretE dX2_rank_77 rfl rfl (by exact ((if_neg (Int32.not_le.mpr k3)).trans ((if_neg k13).trans ((if_neg k23).trans ((if_neg k33).trans ((if_neg (Int32.not_le.mpr k43)).trans (if_pos (Or.inr k58))))))).symm) rfl
          · refine AW.iconst (v := 4) dX2_rank_46 (by decide) rfl ?_
            refine AW.goto (tgt := 77) dX2_rank_47 (by decide) ?_
            exact AW.iretE dX2_rank_77 rfl rfl (by exact ((if_neg (Int32.not_le.mpr k3)).trans ((if_neg k13).trans ((if_neg k23).trans ((if_neg k33).trans (if_pos (Int32.not_lt.mp k43)))))).symm) rfl
        · refine AW.iconst (v := 3) dX2_rank_36 (by decide) rfl ?_
          refine AW.goto (tgt := 77) dX2_rank_37 (by decide) ?_
          exact AW.iretE dX2_rank_77 rfl rfl (by exact ((if_neg (Int32.not_le.mpr k3)).trans ((if_neg k13).trans ((if_neg k23).trans (if_pos k33)))).symm) rfl
      · refine AW.iconst (v := 2) dX2_rank_26 (by decide) rfl ?_
        refine AW.goto (tgt := 77) dX2_rank_27 (by decide) ?_
        exact AW.iretE dX2_rank_77 rfl rfl (by exact ((if_neg (Int32.not_le.mpr k3)).trans ((if_neg k13).trans (if_pos k23))).symm) rfl
    · refine AW.iconst (v := 1) dX2_rank_16 (by decide) rfl ?_
      refine AW.goto (tgt := 77) dX2_rank_17 (by decide) ?_
      exact AW.iretE dX2_rank_77 rfl rfl (by exact ((if_neg (Int32.not_le.mpr k3)).trans (if_pos k13)).symm) rfl
  · refine AW.iconst (v := 0) dX2_rank_6 (by decide) rfl ?_
    refine AW.goto (tgt := 77) dX2_rank_7 (by decide) ?_
    exact AW.iretE dX2_rank_77 rfl rfl (by exact (if_pos (Int32.not_lt.mp k3)).symm) rfl
theorem r_X2_compareOf {s : Sg} {L : Lq} {G : Gq} (n : Nat) (hn : s.S 4 = nI n) (h300 : n ≤ 300) (p : Nat) (hp1 : L.2.1 = nI p) (hpl : p ≤ n) : Run 5 mX2_compareOf [.ref 625] (hp (ps s L G)) (.inl (some (.int (cmpF (byteF (s.A 629) n) L p)))) (hp (ps s L G)) := by
  refine Run.of rfl (Nat.le_of_ble_eq_true rfl) rfl ?_
  refine AW.aload_n dX2_compareOf_0 rfl rfl ?_
  refine AW.get ci2 9 (by decide) q1360 dX2_compareOf_1 gM rfl rfl ?_
  refine AW.bipush (v := 60) dX2_compareOf_4 (by decide) rfl ?_
  refine AW.icmp_ne (tgt := 14) dX2_compareOf_6 (by decide) rfl (fun k6 => ?_) (fun k6 => ?_)
  · refine AW.aload_n dX2_compareOf_14 rfl rfl ?_
    refine AW.get ci2 9 (by decide) q1360 dX2_compareOf_15 gM rfl rfl ?_
    refine AW.iconst (v := 4) dX2_compareOf_18 (by decide) rfl ?_
    refine AW.icmp_ne (tgt := 27) dX2_compareOf_19 (by decide) rfl (fun k19 => ?_) (fun k19 => ?_)
    · refine AW.aload_n dX2_compareOf_27 rfl rfl ?_
      refine AW.get ci2 9 (by decide) q1360 dX2_compareOf_28 gM rfl rfl ?_
      refine AW.bipush (v := 62) dX2_compareOf_31 (by decide) rfl ?_
      refine AW.icmp_ne (tgt := 41) dX2_compareOf_33 (by decide) rfl (fun k33 => ?_) (fun k33 => ?_)
      · refine AW.aload_n dX2_compareOf_41 rfl rfl ?_
        refine AW.get ci2 9 (by decide) q1360 dX2_compareOf_42 gM rfl rfl ?_
        refine AW.iconst (v := 5) dX2_compareOf_45 (by decide) rfl ?_
        refine AW.icmp_ne (tgt := 54) dX2_compareOf_46 (by decide) rfl (fun k46 => ?_) (fun k46 => ?_)
        · refine AW.aload_n dX2_compareOf_54 rfl rfl ?_
          refine AW.get ci2 9 (by decide) q1360 dX2_compareOf_55 gM rfl rfl ?_
          refine AW.bipush (v := 61) dX2_compareOf_58 (by decide) rfl ?_
          refine AW.icmp_ne (tgt := 68) dX2_compareOf_60 (by decide) rfl (fun k60 => ?_) (fun k60 => ?_)
          · refine AW.aload_n dX2_compareOf_68 rfl rfl ?_
            refine AW.get ci2 9 (by decide) q1360 dX2_compareOf_69 gM rfl rfl ?_
            refine AW.bipush (v := 35) dX2_compareOf_72 (by decide) rfl ?_
            refine AW.icmp_ne (tgt := 82) dX2_compareOf_74 (by decide) rfl (fun k74 => ?_) (fun k74 => ?_)
            · refine AW.aload_n dX2_compareOf_82 rfl rfl ?_
              refine AW.bipush (v := 100) dX2_compareOf_83 (by decide) rfl ?_
              refine AW.bipush (v := 105) dX2_compareOf_85 (by decide) rfl ?_
              refine AW.bipush (v := 118) dX2_compareOf_87 (by decide) rfl ?_
              refine AW.bipush (v := 105) dX2_compareOf_89 (by decide) rfl ?_
              refine AW.callS (Y := mX2_w4) (n := 4) (r_X2_w4 _ _ _ _) (by decide) (by decide) q1531 q1532 q141 q1533 dX2_compareOf_91 (by decide +kernel) rfl rfl (Nat.le_of_ble_eq_true rfl) rfl ?_
              refine AW.bipush (v := 100) dX2_compareOf_94 (by decide) rfl ?_
              refine AW.bipush (v := 101) dX2_compareOf_96 (by decide) rfl ?_
              refine AW.bipush (v := 115) dX2_compareOf_98 (by decide) rfl ?_
              refine AW.callS (Y := mX2_w3) (n := 3) (r_X2_w3 _ _ _) (by decide) (by decide) q1534 q1535 q141 q1536 dX2_compareOf_100 (by decide +kernel) rfl rfl (Nat.le_of_ble_eq_true rfl) rfl ?_
              refine AW.callV (Y := mX2_isLong) (n := 2) (r_X2_isLong n hn h300 p hp1 hpl _ _) (by decide) (by decide) rfl gM q1570 q1572 qs76 q141 q1573 dX2_compareOf_103 (by decide +kernel) rfl rfl (Nat.le_of_ble_eq_true rfl) rfl ?_
              refine AW.if_eqB (tgt := 114) dX2_compareOf_106 (by decide) rfl (fun k106 => ?_) (fun k106 => ?_)
              · refine AW.iconst (v := (-1)) dX2_compareOf_114 (by decide) rfl ?_
                exact AW.iretE dX2_compareOf_115 rfl rfl (by exact ((if_neg k6).trans ((if_neg k19).trans ((if_neg k33).trans ((if_neg k46).trans ((if_neg k60).trans ((if_neg k74).trans (if_neg (fun z => Bool.noConfusion (k106.symm.trans z))))))))).symm) rfl
              · refine AW.bipush (v := 16) dX2_compareOf_109 (by decide) rfl ?_
                refine AW.goto (tgt := 115) dX2_compareOf_111 (by decide) ?_
                exact AW.iretE dX2_compareOf_115 rfl rfl (by exact ((if_neg k6).trans ((if_neg k19).trans ((if_neg k33).trans ((if_neg k46).trans ((if_neg k60).trans ((if_neg k74).trans (if_pos k106))))))).symm) rfl
            · refine AW.bipush (v := 15) dX2_compareOf_77 (by decide) rfl ?_
              refine AW.goto (tgt := 115) dX2_compareOf_79 (by decide) ?_
              exact AW.iretE dX2_compareOf_115 rfl rfl (by exact ((if_neg k6).trans ((if_neg k19).trans ((if_neg k33).trans ((if_neg k46).trans ((if_neg k60).trans (if_pos k74)))))).symm) rfl
          · refine AW.bipush (v := 14) dX2_compareOf_63 (by decide) rfl ?_
            refine AW.goto (tgt := 115) dX2_compareOf_65 (by decide) ?_
            exact AW.iretE dX2_compareOf_115 rfl rfl (by exact ((if_neg k6).trans ((if_neg k19).trans ((if_neg k33).trans ((if_neg k46).trans (if_pos k60))))).symm) rfl
        · refine AW.bipush (v := 13) dX2_compareOf_49 (by decide) rfl ?_
          refine AW.goto (tgt := 115) dX2_compareOf_51 (by decide) ?_
          exact AW.iretE dX2_compareOf_115 rfl rfl (by exact ((if_neg k6).trans ((if_neg k19).trans ((if_neg k33).trans (if_pos k46)))).symm) rfl
      · refine AW.bipush (v := 12) dX2_compareOf_36 (by decide) rfl ?_
        refine AW.goto (tgt := 115) dX2_compareOf_38 (by decide) ?_
        exact AW.iretE dX2_compareOf_115 rfl rfl (by exact ((if_neg k6).trans ((if_neg k19).trans (if_pos k33))).symm) rfl
    · refine AW.bipush (v := 11) dX2_compareOf_22 (by decide) rfl ?_
      refine AW.goto (tgt := 115) dX2_compareOf_24 (by decide) ?_
      exact AW.iretE dX2_compareOf_115 rfl rfl (by exact ((if_neg k6).trans (if_pos k19)).symm) rfl
  · refine AW.bipush (v := 10) dX2_compareOf_9 (by decide) rfl ?_
    refine AW.goto (tgt := 115) dX2_compareOf_11 (by decide) ?_
    exact AW.iretE dX2_compareOf_115 rfl rfl (by exact (if_pos k6).symm) rfl
theorem r_X2_sortOf {s : Sg} {L : Lq} {G : Gq} : Run 6 mX2_sortOf [.ref 625] (hp (ps s L G)) (.inl (some (.int (sortF L)))) (hp (ps s L G)) := by
  refine Run.of rfl (Nat.le_of_ble_eq_true rfl) rfl ?_
  refine AW.aload_n dX2_sortOf_0 rfl rfl ?_
  refine AW.bipush (v := 101) dX2_sortOf_1 (by decide) rfl ?_
  refine AW.bipush (v := 97) dX2_sortOf_3 (by decide) rfl ?_
  refine AW.bipush (v := 114) dX2_sortOf_5 (by decide) rfl ?_
  refine AW.bipush (v := 110) dX2_sortOf_7 (by decide) rfl ?_
  refine AW.bipush (v := 115) dX2_sortOf_9 (by decide) rfl ?_
  refine AW.callS (Y := mX2_w5) (n := 5) (r_X2_w5 _ _ _ _ _) (by decide) (by decide) q1528 q1529 q141 q1530 dX2_sortOf_11 (by decide +kernel) rfl rfl (Nat.le_of_ble_eq_true rfl) rfl ?_
  refine AW.callV (Y := mX2_isWord) (n := 1) (r_X2_isWord _) (by decide) (by decide) rfl gM q1540 q1542 qs70 q141 q1543 dX2_sortOf_14 (by decide +kernel) rfl rfl (Nat.le_of_ble_eq_true rfl) rfl ?_
  refine AW.if_eqB (tgt := 22) dX2_sortOf_17 (by decide) rfl (fun k17 => ?_) (fun k17 => ?_)
  · refine AW.aload_n dX2_sortOf_22 rfl rfl ?_
    refine AW.bipush (v := 108) dX2_sortOf_23 (by decide) rfl ?_
    refine AW.bipush (v := 111) dX2_sortOf_25 (by decide) rfl ?_
    refine AW.bipush (v := 115) dX2_sortOf_27 (by decide) rfl ?_
    refine AW.bipush (v := 101) dX2_sortOf_29 (by decide) rfl ?_
    refine AW.bipush (v := 115) dX2_sortOf_31 (by decide) rfl ?_
    refine AW.callS (Y := mX2_w5) (n := 5) (r_X2_w5 _ _ _ _ _) (by decide) (by decide) q1528 q1529 q141 q1530 dX2_sortOf_33 (by decide +kernel) rfl rfl (Nat.le_of_ble_eq_true rfl) rfl ?_
    refine AW.callV (Y := mX2_isWord) (n := 1) (r_X2_isWord _) (by decide) (by decide) rfl gM q1540 q1542 qs70 q141 q1543 dX2_sortOf_36 (by decide +kernel) rfl rfl (Nat.le_of_ble_eq_true rfl) rfl ?_
    refine AW.if_eqB (tgt := 44) dX2_sortOf_39 (by decide) rfl (fun k39 => ?_) (fun k39 => ?_)
    · refine AW.aload_n dX2_sortOf_44 rfl rfl ?_
      refine AW.bipush (v := 108) dX2_sortOf_45 (by decide) rfl ?_
      refine AW.bipush (v := 101) dX2_sortOf_47 (by decide) rfl ?_
      refine AW.bipush (v := 116) dX2_sortOf_49 (by decide) rfl ?_
      refine AW.bipush (v := 115) dX2_sortOf_51 (by decide) rfl ?_
      refine AW.callS (Y := mX2_w4) (n := 4) (r_X2_w4 _ _ _ _) (by decide) (by decide) q1531 q1532 q141 q1533 dX2_sortOf_53 (by decide +kernel) rfl rfl (Nat.le_of_ble_eq_true rfl) rfl ?_
      refine AW.callV (Y := mX2_isWord) (n := 1) (r_X2_isWord _) (by decide) (by decide) rfl gM q1540 q1542 qs70 q141 q1543 dX2_sortOf_56 (by decide +kernel) rfl rfl (Nat.le_of_ble_eq_true rfl) rfl ?_
      refine AW.if_eqB (tgt := 64) dX2_sortOf_59 (by decide) rfl (fun k59 => ?_) (fun k59 => ?_)
      · refine AW.aload_n dX2_sortOf_64 rfl rfl ?_
        refine AW.bipush (v := 104) dX2_sortOf_65 (by decide) rfl ?_
        refine AW.bipush (v := 111) dX2_sortOf_67 (by decide) rfl ?_
        refine AW.bipush (v := 117) dX2_sortOf_69 (by decide) rfl ?_
        refine AW.bipush (v := 115) dX2_sortOf_71 (by decide) rfl ?_
        refine AW.bipush (v := 101) dX2_sortOf_73 (by decide) rfl ?_
        refine AW.callS (Y := mX2_w5) (n := 5) (r_X2_w5 _ _ _ _ _) (by decide) (by decide) q1528 q1529 q141 q1530 dX2_sortOf_75 (by decide +kernel) rfl rfl (Nat.le_of_ble_eq_true rfl) rfl ?_
        refine AW.callV (Y := mX2_isWord) (n := 1) (r_X2_isWord _) (by decide) (by decide) rfl gM q1540 q1542 qs70 q141 q1543 dX2_sortOf_78 (by decide +kernel) rfl rfl (Nat.le_of_ble_eq_true rfl) rfl ?_
        refine AW.if_eqB (tgt := 86) dX2_sortOf_81 (by decide) rfl (fun k81 => ?_) (fun k81 => ?_)
        · refine AW.aload_n dX2_sortOf_86 rfl rfl ?_
          refine AW.bipush (v := 107) dX2_sortOf_87 (by decide) rfl ?_
          refine AW.bipush (v := 110) dX2_sortOf_89 (by decide) rfl ?_
          refine AW.bipush (v := 111) dX2_sortOf_91 (by decide) rfl ?_
          refine AW.bipush (v := 99) dX2_sortOf_93 (by decide) rfl ?_
          refine AW.bipush (v := 107) dX2_sortOf_95 (by decide) rfl ?_
          refine AW.callS (Y := mX2_w5) (n := 5) (r_X2_w5 _ _ _ _ _) (by decide) (by decide) q1528 q1529 q141 q1530 dX2_sortOf_97 (by decide +kernel) rfl rfl (Nat.le_of_ble_eq_true rfl) rfl ?_
          refine AW.callV (Y := mX2_isWord) (n := 1) (r_X2_isWord _) (by decide) (by decide) rfl gM q1540 q1542 qs70 q141 q1543 dX2_sortOf_100 (by decide +kernel) rfl rfl (Nat.le_of_ble_eq_true rfl) rfl ?_
          refine AW.if_eqB (tgt := 108) dX2_sortOf_103 (by decide) rfl (fun k103 => ?_) (fun k103 => ?_)
          · refine AW.aload_n dX2_sortOf_108 rfl rfl ?_
            refine AW.bipush (v := 109) dX2_sortOf_109 (by decide) rfl ?_
            refine AW.bipush (v := 97) dX2_sortOf_111 (by decide) rfl ?_
            refine AW.bipush (v := 114) dX2_sortOf_113 (by decide) rfl ?_
            refine AW.bipush (v := 114) dX2_sortOf_115 (by decide) rfl ?_
            refine AW.bipush (v := 121) dX2_sortOf_117 (by decide) rfl ?_
            refine AW.callS (Y := mX2_w5) (n := 5) (r_X2_w5 _ _ _ _ _) (by decide) (by decide) q1528 q1529 q141 q1530 dX2_sortOf_119 (by decide +kernel) rfl rfl (Nat.le_of_ble_eq_true rfl) rfl ?_
            refine AW.callV (Y := mX2_isWord) (n := 1) (r_X2_isWord _) (by decide) (by decide) rfl gM q1540 q1542 qs70 q141 q1543 dX2_sortOf_122 (by decide +kernel) rfl rfl (Nat.le_of_ble_eq_true rfl) rfl ?_
            refine AW.if_eqB (tgt := 130) dX2_sortOf_125 (by decide) rfl (fun k125 => ?_) (fun k125 => ?_)
            · refine AW.aload_n dX2_sortOf_130 rfl rfl ?_
              refine AW.bipush (v := 104) dX2_sortOf_131 (by decide) rfl ?_
              refine AW.bipush (v := 97) dX2_sortOf_133 (by decide) rfl ?_
              refine AW.bipush (v := 116) dX2_sortOf_135 (by decide) rfl ?_
              refine AW.callS (Y := mX2_w3) (n := 3) (r_X2_w3 _ _ _) (by decide) (by decide) q1534 q1535 q141 q1536 dX2_sortOf_137 (by decide +kernel) rfl rfl (Nat.le_of_ble_eq_true rfl) rfl ?_
              refine AW.callV (Y := mX2_isWord) (n := 1) (r_X2_isWord _) (by decide) (by decide) rfl gM q1540 q1542 qs70 q141 q1543 dX2_sortOf_140 (by decide +kernel) rfl rfl (Nat.le_of_ble_eq_true rfl) rfl ?_
              refine AW.if_eqB (tgt := 149) dX2_sortOf_143 (by decide) rfl (fun k143 => ?_) (fun k143 => ?_)
              · refine AW.aload_n dX2_sortOf_149 rfl rfl ?_
                refine AW.bipush (v := 102) dX2_sortOf_150 (by decide) rfl ?_
                refine AW.bipush (v := 111) dX2_sortOf_152 (by decide) rfl ?_
                refine AW.bipush (v := 114) dX2_sortOf_154 (by decide) rfl ?_
                refine AW.bipush (v := 103) dX2_sortOf_156 (by decide) rfl ?_
                refine AW.bipush (v := 101) dX2_sortOf_158 (by decide) rfl ?_
                refine AW.bipush (v := 116) dX2_sortOf_160 (by decide) rfl ?_
                refine AW.callS (Y := mX2_w6) (n := 6) (r_X2_w6 _ _ _ _ _ _) (by decide) (by decide) q1544 q1545 q141 q1546 dX2_sortOf_162 (by decide +kernel) rfl rfl (Nat.le_of_ble_eq_true rfl) rfl ?_
                refine AW.callV (Y := mX2_isWord) (n := 1) (r_X2_isWord _) (by decide) (by decide) rfl gM q1540 q1542 qs70 q141 q1543 dX2_sortOf_165 (by decide +kernel) rfl rfl (Nat.le_of_ble_eq_true rfl) rfl ?_
                refine AW.if_eqB (tgt := 176) dX2_sortOf_168 (by decide) rfl (fun k168 => ?_) (fun k168 => ?_)
                · refine AW.aload_n dX2_sortOf_176 rfl rfl ?_
                  refine AW.bipush (v := 100) dX2_sortOf_177 (by decide) rfl ?_
                  refine AW.bipush (v := 97) dX2_sortOf_179 (by decide) rfl ?_
                  refine AW.bipush (v := 121) dX2_sortOf_181 (by decide) rfl ?_
                  refine AW.callS (Y := mX2_w3) (n := 3) (r_X2_w3 _ _ _) (by decide) (by decide) q1534 q1535 q141 q1536 dX2_sortOf_183 (by decide +kernel) rfl rfl (Nat.le_of_ble_eq_true rfl) rfl ?_
                  refine AW.callV (Y := mX2_isWord) (n := 1) (r_X2_isWord _) (by decide) (by decide) rfl gM q1540 q1542 qs70 q141 q1543 dX2_sortOf_186 (by decide +kernel) rfl rfl (Nat.le_of_ble_eq_true rfl) rfl ?_
                  refine AW.if_eqB (tgt := 197) dX2_sortOf_189 (by decide) rfl (fun k189 => ?_) (fun k189 => ?_)
                  · refine AW.iconst (v := (-1)) dX2_sortOf_197 (by decide) rfl ?_
                    exact AW.iretE dX2_sortOf_198 rfl rfl (by exact ((if_neg (fun z => Bool.noConfusion (k17.symm.trans z))).trans ((if_neg (fun z => Bool.noConfusion (k39.symm.trans z))).trans ((if_neg (fun z => Bool.noConfusion (k59.symm.trans z))).trans ((if_neg (fun z => Bool.noConfusion (k81.symm.trans z))).trans ((if_neg (fun z => Bool.noConfusion (k103.symm.trans z))).trans ((if_neg (fun z => Bool.noConfusion (k125.symm.trans z))).trans ((if_neg (fun z => Bool.noConfusion (k143.symm.trans z))).trans ((if_neg (fun z => Bool.noConfusion (k168.symm.trans z))).trans (if_neg (fun z => Bool.noConfusion (k189.symm.trans z))))))))))).symm) rfl
                  · refine AW.bipush (v := 8) dX2_sortOf_192 (by decide) rfl ?_
                    refine AW.goto (tgt := 198) dX2_sortOf_194 (by decide) ?_
                    exact AW.iretE dX2_sortOf_198 rfl rfl (by exact ((if_neg (fun z => Bool.noConfusion (k17.symm.trans z))).trans ((if_neg (fun z => Bool.noConfusion (k39.symm.trans z))).trans ((if_neg (fun z => Bool.noConfusion (k59.symm.trans z))).trans ((if_neg (fun z => Bool.noConfusion (k81.symm.trans z))).trans ((if_neg (fun z => Bool.noConfusion (k103.symm.trans z))).trans ((if_neg (fun z => Bool.noConfusion (k125.symm.trans z))).trans ((if_neg (fun z => Bool.noConfusion (k143.symm.trans z))).trans ((if_neg (fun z => Bool.noConfusion (k168.symm.trans z))).trans (if_pos k189))))))))).symm) rfl
                · refine AW.bipush (v := 7) dX2_sortOf_171 (by decide) rfl ?_
                  refine AW.goto (tgt := 198) dX2_sortOf_173 (by decide) ?_
                  exact AW.iretE dX2_sortOf_198 rfl rfl (by exact ((if_neg (fun z => Bool.noConfusion (k17.symm.trans z))).trans ((if_neg (fun z => Bool.noConfusion (k39.symm.trans z))).trans ((if_neg (fun z => Bool.noConfusion (k59.symm.trans z))).trans ((if_neg (fun z => Bool.noConfusion (k81.symm.trans z))).trans ((if_neg (fun z => Bool.noConfusion (k103.symm.trans z))).trans ((if_neg (fun z => Bool.noConfusion (k125.symm.trans z))).trans ((if_neg (fun z => Bool.noConfusion (k143.symm.trans z))).trans (if_pos k168)))))))).symm) rfl
              · refine AW.bipush (v := 6) dX2_sortOf_146 (by decide) rfl ?_
                exact AW.iretE dX2_sortOf_148 rfl rfl (by exact ((if_neg (fun z => Bool.noConfusion (k17.symm.trans z))).trans ((if_neg (fun z => Bool.noConfusion (k39.symm.trans z))).trans ((if_neg (fun z => Bool.noConfusion (k59.symm.trans z))).trans ((if_neg (fun z => Bool.noConfusion (k81.symm.trans z))).trans ((if_neg (fun z => Bool.noConfusion (k103.symm.trans z))).trans ((if_neg (fun z => Bool.noConfusion (k125.symm.trans z))).trans (if_pos k143))))))).symm) rfl
            · refine AW.iconst (v := 5) dX2_sortOf_128 (by decide) rfl ?_
              exact AW.iretE dX2_sortOf_129 rfl rfl (by exact ((if_neg (fun z => Bool.noConfusion (k17.symm.trans z))).trans ((if_neg (fun z => Bool.noConfusion (k39.symm.trans z))).trans ((if_neg (fun z => Bool.noConfusion (k59.symm.trans z))).trans ((if_neg (fun z => Bool.noConfusion (k81.symm.trans z))).trans ((if_neg (fun z => Bool.noConfusion (k103.symm.trans z))).trans (if_pos k125)))))).symm) rfl
          · refine AW.iconst (v := 4) dX2_sortOf_106 (by decide) rfl ?_
            exact AW.iretE dX2_sortOf_107 rfl rfl (by exact ((if_neg (fun z => Bool.noConfusion (k17.symm.trans z))).trans ((if_neg (fun z => Bool.noConfusion (k39.symm.trans z))).trans ((if_neg (fun z => Bool.noConfusion (k59.symm.trans z))).trans ((if_neg (fun z => Bool.noConfusion (k81.symm.trans z))).trans (if_pos k103))))).symm) rfl
        · refine AW.iconst (v := 3) dX2_sortOf_84 (by decide) rfl ?_
          exact AW.iretE dX2_sortOf_85 rfl rfl (by exact ((if_neg (fun z => Bool.noConfusion (k17.symm.trans z))).trans ((if_neg (fun z => Bool.noConfusion (k39.symm.trans z))).trans ((if_neg (fun z => Bool.noConfusion (k59.symm.trans z))).trans (if_pos k81)))).symm) rfl
      · refine AW.iconst (v := 2) dX2_sortOf_62 (by decide) rfl ?_
        exact AW.iretE dX2_sortOf_63 rfl rfl (by exact ((if_neg (fun z => Bool.noConfusion (k17.symm.trans z))).trans ((if_neg (fun z => Bool.noConfusion (k39.symm.trans z))).trans (if_pos k59))).symm) rfl
    · refine AW.iconst (v := 1) dX2_sortOf_42 (by decide) rfl ?_
      exact AW.iretE dX2_sortOf_43 rfl rfl (by exact ((if_neg (fun z => Bool.noConfusion (k17.symm.trans z))).trans (if_pos k39)).symm) rfl
  · refine AW.iconst (v := 0) dX2_sortOf_20 (by decide) rfl ?_
    exact AW.iretE dX2_sortOf_21 rfl rfl (by exact (if_pos k17).symm) rfl
