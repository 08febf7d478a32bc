/-! STRINGS of the start (printed by tools/xst.py) -/
set_option maxRecDepth 100000
abbrev AS (s : State) : Nat → Prop := fun q : Nat => s.heap.size ≤ q
theorem AS_no {s : State} (a : Nat) (h : a < s.heap.size) : ¬ AS s a := Nat.not_le.mpr h
/-- a string constant: its cell a, its bytes' cell t -/
def SOk (s : State) (b tx : Nat) (L : List Nat) (a t : Nat) : Prop := (Jvm.Term.string "ShutDays$Tokens" tx).eval #[Value.ref b] s none [] s = some (.ref a) ∧ va_O "java/lang/String" a (AS s) s s.heap ∧ va_OF "java/lang/String" "coder" "B" (.int 0) a (AS s) s s.heap ∧ va_OF "java/lang/String" "value" "[B" (.ref t) a (AS s) s s.heap ∧ va_T .byte t L.length (fun j => .int (nI (L.getD j 0))) (AS s) s s.heap
theorem st_of {b tx : Nat} {s : State} {L : List Nat} (hN : L.length < 2 ^ 31) (hex : (Jvm.Cond.exactly (.string "ShutDays$Tokens" tx) "java/lang/String").before #[Value.ref b] s = true) (hco : (Jvm.Cond.eq (.field (.string "ShutDays$Tokens" tx) "java/lang/String" "coder" "B") (.int 0)).before #[Value.ref b] s = true) (har : (Jvm.Cond.arrayOf (.field (.string "ShutDays$Tokens" tx) "java/lang/String" "value" "[B") .byte).before #[Value.ref b] s = true) (hle : (Jvm.Cond.eq (.length (.field (.string "ShutDays$Tokens" tx) "java/lang/String" "value" "[B")) (.int (Int32.ofNat L.length))).before #[Value.ref b] s = true) (hel : ∀ j, j < L.length → (Jvm.Cond.eq (.elem (.field (.string "ShutDays$Tokens" tx) "java/lang/String" "value" "[B") (.int (Int32.ofNat j))) (.int (nI (L.getD j 0)))).before #[Value.ref b] s = true) : ∃ q : Nat × Nat, SOk s b tx L q.1 q.2 := by
  obtain ⟨a, c, cA, kA, q1, q2, q3, q4, q5, q6, -⟩ := Cond.exactly_spec (args := #[Value.ref b]) (first := s) (o := none) (s := s) (idx := []) hex
  obtain ⟨t, ht, hT⟩ := va_Tof (f := fun j => .int (nI (L.getD j 0))) (A := AS s) hN har (va_eqt hle) (fun j hj => va_eqt (hel j hj)) AS_no
  exact ⟨(a, t), q1, ⟨cA, q3, q5, by rw [q6]; exact q2, AS_no a (Array.getElem?_eq_some_iff.mp q3).1⟩, vk_OFof q1 (va_eqt hco) AS_no, vk_OFof q1 ht AS_no, hT⟩
theorem wst0 {b : Nat} {s : State} (hg : (Jvm.Cond.and given_1 narrow_1).before #[Value.ref b] s = true) : ∃ q : Nat × Nat, SOk s b 218 (wdL 0) q.1 q.2 := st_of (by decide) (nw106 hg) (nw107 hg) (nw108 hg) (nw109 hg) (fun j hj => by
  have hj : j < 5 := hj
  match j, hj with
  | 0, _ => exact nw110 hg
  | 1, _ => exact nw111 hg
  | 2, _ => exact nw112 hg
  | 3, _ => exact nw113 hg
  | 4, _ => exact nw114 hg
  | j + 5, h => omega)
theorem wst1 {b : Nat} {s : State} (hg : (Jvm.Cond.and given_1 narrow_1).before #[Value.ref b] s = true) : ∃ q : Nat × Nat, SOk s b 219 (wdL 1) q.1 q.2 := st_of (by decide) (nw116 hg) (nw117 hg) (nw118 hg) (nw119 hg) (fun j hj => by
  have hj : j < 5 := hj
  match j, hj with
  | 0, _ => exact nw120 hg
  | 1, _ => exact nw121 hg
  | 2, _ => exact nw122 hg
  | 3, _ => exact nw123 hg
  | 4, _ => exact nw124 hg
  | j + 5, h => omega)
theorem wst2 {b : Nat} {s : State} (hg : (Jvm.Cond.and given_1 narrow_1).before #[Value.ref b] s = true) : ∃ q : Nat × Nat, SOk s b 220 (wdL 2) q.1 q.2 := st_of (by decide) (nw127 hg) (nw128 hg) (nw129 hg) (nw130 hg) (fun j hj => by
  have hj : j < 4 := hj
  match j, hj with
  | 0, _ => exact nw131 hg
  | 1, _ => exact nw132 hg
  | 2, _ => exact nw133 hg
  | 3, _ => exact nw134 hg
  | j + 4, h => omega)
theorem wst3 {b : Nat} {s : State} (hg : (Jvm.Cond.and given_1 narrow_1).before #[Value.ref b] s = true) : ∃ q : Nat × Nat, SOk s b 221 (wdL 3) q.1 q.2 := st_of (by decide) (nw138 hg) (nw139 hg) (nw140 hg) (nw141 hg) (fun j hj => by
  have hj : j < 5 := hj
  match j, hj with
  | 0, _ => exact nw142 hg
  | 1, _ => exact nw143 hg
  | 2, _ => exact nw144 hg
  | 3, _ => exact nw145 hg
  | 4, _ => exact nw146 hg
  | j + 5, h => omega)
theorem wst4 {b : Nat} {s : State} (hg : (Jvm.Cond.and given_1 narrow_1).before #[Value.ref b] s = true) : ∃ q : Nat × Nat, SOk s b 223 (wdL 4) q.1 q.2 := st_of (by decide) (nw151 hg) (nw152 hg) (nw153 hg) (nw154 hg) (fun j hj => by
  have hj : j < 5 := hj
  match j, hj with
  | 0, _ => exact nw155 hg
  | 1, _ => exact nw156 hg
  | 2, _ => exact nw157 hg
  | 3, _ => exact nw158 hg
  | 4, _ => exact nw159 hg
  | j + 5, h => omega)
theorem wst5 {b : Nat} {s : State} (hg : (Jvm.Cond.and given_1 narrow_1).before #[Value.ref b] s = true) : ∃ q : Nat × Nat, SOk s b 225 (wdL 5) q.1 q.2 := st_of (by decide) (nw165 hg) (nw166 hg) (nw167 hg) (nw168 hg) (fun j hj => by
  have hj : j < 5 := hj
  match j, hj with
  | 0, _ => exact nw169 hg
  | 1, _ => exact nw170 hg
  | 2, _ => exact nw171 hg
  | 3, _ => exact nw172 hg
  | 4, _ => exact nw173 hg
  | j + 5, h => omega)
theorem wst6 {b : Nat} {s : State} (hg : (Jvm.Cond.and given_1 narrow_1).before #[Value.ref b] s = true) : ∃ q : Nat × Nat, SOk s b 227 (wdL 6) q.1 q.2 := st_of (by decide) (nw180 hg) (nw181 hg) (nw182 hg) (nw183 hg) (fun j hj => by
  have hj : j < 3 := hj
  match j, hj with
  | 0, _ => exact nw184 hg
  | 1, _ => exact nw185 hg
  | 2, _ => exact nw186 hg
  | j + 3, h => omega)
theorem wst7 {b : Nat} {s : State} (hg : (Jvm.Cond.and given_1 narrow_1).before #[Value.ref b] s = true) : ∃ q : Nat × Nat, SOk s b 229 (wdL 7) q.1 q.2 := st_of (by decide) (nw194 hg) (nw195 hg) (nw196 hg) (nw197 hg) (fun j hj => by
  have hj : j < 6 := hj
  match j, hj with
  | 0, _ => exact nw198 hg
  | 1, _ => exact nw199 hg
  | 2, _ => exact nw200 hg
  | 3, _ => exact nw201 hg
  | 4, _ => exact nw202 hg
  | 5, _ => exact nw203 hg
  | j + 6, h => omega)
theorem wst8 {b : Nat} {s : State} (hg : (Jvm.Cond.and given_1 narrow_1).before #[Value.ref b] s = true) : ∃ q : Nat × Nat, SOk s b 231 (wdL 8) q.1 q.2 := st_of (by decide) (nw212 hg) (nw213 hg) (nw214 hg) (nw215 hg) (fun j hj => by
  have hj : j < 3 := hj
  match j, hj with
  | 0, _ => exact nw216 hg
  | 1, _ => exact nw217 hg
  | 2, _ => exact nw218 hg
  | j + 3, h => omega)
theorem wst9 {b : Nat} {s : State} (hg : (Jvm.Cond.and given_1 narrow_1).before #[Value.ref b] s = true) : ∃ q : Nat × Nat, SOk s b 233 (wdL 9) q.1 q.2 := st_of (by decide) (nw228 hg) (nw229 hg) (nw230 hg) (nw231 hg) (fun j hj => by
  have hj : j < 5 := hj
  match j, hj with
  | 0, _ => exact nw232 hg
  | 1, _ => exact nw233 hg
  | 2, _ => exact nw234 hg
  | 3, _ => exact nw235 hg
  | 4, _ => exact nw236 hg
  | j + 5, h => omega)
theorem wst10 {b : Nat} {s : State} (hg : (Jvm.Cond.and given_1 narrow_1).before #[Value.ref b] s = true) : ∃ q : Nat × Nat, SOk s b 235 (wdL 10) q.1 q.2 := st_of (by decide) (nw247 hg) (nw248 hg) (nw249 hg) (nw250 hg) (fun j hj => by
  have hj : j < 7 := hj
  match j, hj with
  | 0, _ => exact nw251 hg
  | 1, _ => exact nw252 hg
  | 2, _ => exact nw253 hg
  | 3, _ => exact nw254 hg
  | 4, _ => exact nw255 hg
  | 5, _ => exact nw256 hg
  | 6, _ => exact nw257 hg
  | j + 7, h => omega)
theorem wst11 {b : Nat} {s : State} (hg : (Jvm.Cond.and given_1 narrow_1).before #[Value.ref b] s = true) : ∃ q : Nat × Nat, SOk s b 237 (wdL 11) q.1 q.2 := st_of (by decide) (nw269 hg) (nw270 hg) (nw271 hg) (nw272 hg) (fun j hj => by
  have hj : j < 2 := hj
  match j, hj with
  | 0, _ => exact nw273 hg
  | 1, _ => exact nw274 hg
  | j + 2, h => omega)
theorem wst12 {b : Nat} {s : State} (hg : (Jvm.Cond.and given_1 narrow_1).before #[Value.ref b] s = true) : ∃ q : Nat × Nat, SOk s b 239 (wdL 12) q.1 q.2 := st_of (by decide) (nw287 hg) (nw288 hg) (nw289 hg) (nw290 hg) (fun j hj => by
  have hj : j < 2 := hj
  match j, hj with
  | 0, _ => exact nw291 hg
  | 1, _ => exact nw292 hg
  | j + 2, h => omega)
theorem wst13 {b : Nat} {s : State} (hg : (Jvm.Cond.and given_1 narrow_1).before #[Value.ref b] s = true) : ∃ q : Nat × Nat, SOk s b 241 (wdL 13) q.1 q.2 := st_of (by decide) (nw306 hg) (nw307 hg) (nw308 hg) (nw309 hg) (fun j hj => by
  have hj : j < 2 := hj
  match j, hj with
  | 0, _ => exact nw310 hg
  | 1, _ => exact nw311 hg
  | j + 2, h => omega)
theorem wst14 {b : Nat} {s : State} (hg : (Jvm.Cond.and given_1 narrow_1).before #[Value.ref b] s = true) : ∃ q : Nat × Nat, SOk s b 243 (wdL 14) q.1 q.2 := st_of (by decide) (nw326 hg) (nw327 hg) (nw328 hg) (nw329 hg) (fun j hj => by
  have hj : j < 3 := hj
  match j, hj with
  | 0, _ => exact nw330 hg
  | 1, _ => exact nw331 hg
  | 2, _ => exact nw332 hg
  | j + 3, h => omega)
theorem wst15 {b : Nat} {s : State} (hg : (Jvm.Cond.and given_1 narrow_1).before #[Value.ref b] s = true) : ∃ q : Nat × Nat, SOk s b 245 (wdL 15) q.1 q.2 := st_of (by decide) (nw348 hg) (nw349 hg) (nw350 hg) (nw351 hg) (fun j hj => by
  have hj : j < 3 := hj
  match j, hj with
  | 0, _ => exact nw352 hg
  | 1, _ => exact nw353 hg
  | 2, _ => exact nw354 hg
  | j + 3, h => omega)
theorem wst16 {b : Nat} {s : State} (hg : (Jvm.Cond.and given_1 narrow_1).before #[Value.ref b] s = true) : ∃ q : Nat × Nat, SOk s b 247 (wdL 16) q.1 q.2 := st_of (by decide) (nw371 hg) (nw372 hg) (nw373 hg) (nw374 hg) (fun j hj => by
  have hj : j < 7 := hj
  match j, hj with
  | 0, _ => exact nw375 hg
  | 1, _ => exact nw376 hg
  | 2, _ => exact nw377 hg
  | 3, _ => exact nw378 hg
  | 4, _ => exact nw379 hg
  | 5, _ => exact nw380 hg
  | 6, _ => exact nw381 hg
  | j + 7, h => omega)
theorem wst17 {b : Nat} {s : State} (hg : (Jvm.Cond.and given_1 narrow_1).before #[Value.ref b] s = true) : ∃ q : Nat × Nat, SOk s b 248 (wdL 17) q.1 q.2 := st_of (by decide) (nw399 hg) (nw400 hg) (nw401 hg) (nw402 hg) (fun j hj => by
  have hj : j < 5 := hj
  match j, hj with
  | 0, _ => exact nw403 hg
  | 1, _ => exact nw404 hg
  | 2, _ => exact nw405 hg
  | 3, _ => exact nw406 hg
  | 4, _ => exact nw407 hg
  | j + 5, h => omega)
theorem wst18 {b : Nat} {s : State} (hg : (Jvm.Cond.and given_1 narrow_1).before #[Value.ref b] s = true) : ∃ q : Nat × Nat, SOk s b 249 (wdL 18) q.1 q.2 := st_of (by decide) (nw426 hg) (nw427 hg) (nw428 hg) (nw429 hg) (fun j hj => by
  have hj : j < 4 := hj
  match j, hj with
  | 0, _ => exact nw430 hg
  | 1, _ => exact nw431 hg
  | 2, _ => exact nw432 hg
  | 3, _ => exact nw433 hg
  | j + 4, h => omega)
theorem wst19 {b : Nat} {s : State} (hg : (Jvm.Cond.and given_1 narrow_1).before #[Value.ref b] s = true) : ∃ q : Nat × Nat, SOk s b 251 (wdL 19) q.1 q.2 := st_of (by decide) (nw453 hg) (nw454 hg) (nw455 hg) (nw456 hg) (fun j hj => by
  have hj : j < 4 := hj
  match j, hj with
  | 0, _ => exact nw457 hg
  | 1, _ => exact nw458 hg
  | 2, _ => exact nw459 hg
  | 3, _ => exact nw460 hg
  | j + 4, h => omega)
theorem wst20 {b : Nat} {s : State} (hg : (Jvm.Cond.and given_1 narrow_1).before #[Value.ref b] s = true) : ∃ q : Nat × Nat, SOk s b 253 (wdL 20) q.1 q.2 := st_of (by decide) (nw481 hg) (nw482 hg) (nw483 hg) (nw484 hg) (fun j hj => by
  have hj : j < 4 := hj
  match j, hj with
  | 0, _ => exact nw485 hg
  | 1, _ => exact nw486 hg
  | 2, _ => exact nw487 hg
  | 3, _ => exact nw488 hg
  | j + 4, h => omega)
theorem wst21 {b : Nat} {s : State} (hg : (Jvm.Cond.and given_1 narrow_1).before #[Value.ref b] s = true) : ∃ q : Nat × Nat, SOk s b 254 (wdL 21) q.1 q.2 := st_of (by decide) (nw510 hg) (nw511 hg) (nw512 hg) (nw513 hg) (fun j hj => by
  have hj : j < 6 := hj
  match j, hj with
  | 0, _ => exact nw514 hg
  | 1, _ => exact nw515 hg
  | 2, _ => exact nw516 hg
  | 3, _ => exact nw517 hg
  | 4, _ => exact nw518 hg
  | 5, _ => exact nw519 hg
  | j + 6, h => omega)
theorem wst22 {b : Nat} {s : State} (hg : (Jvm.Cond.and given_1 narrow_1).before #[Value.ref b] s = true) : ∃ q : Nat × Nat, SOk s b 53 (wdL 22) q.1 q.2 := st_of (by decide) (nw91 hg) (nw92 hg) (nw93 hg) (nw94 hg) (fun j hj => by
  have hj : j < 11 := hj
  match j, hj with
  | 0, _ => exact nw95 hg
  | 1, _ => exact nw96 hg
  | 2, _ => exact nw97 hg
  | 3, _ => exact nw98 hg
  | 4, _ => exact nw99 hg
  | 5, _ => exact nw100 hg
  | 6, _ => exact nw101 hg
  | 7, _ => exact nw102 hg
  | 8, _ => exact nw103 hg
  | 9, _ => exact nw104 hg
  | 10, _ => exact nw105 hg
  | j + 11, h => omega)
def txN (i : Nat) : Nat := [218, 219, 220, 221, 223, 225, 227, 229, 231, 233, 235, 237, 239, 241, 243, 245, 247, 248, 249, 251, 253, 254, 53].getD i 0
theorem st_all {b : Nat} {s : State} (hg : (Jvm.Cond.and given_1 narrow_1).before #[Value.ref b] s = true) : ∃ ad : Nat → Nat × Nat, ∀ i, i < 23 → SOk s b (txN i) (wdL i) (ad i).1 (ad i).2 := by
  have h0 : ∀ i, ∃ q : Nat × Nat, i < 23 → SOk s b (txN i) (wdL i) q.1 q.2 := by
    intro i
    match i with
    | 0 => exact (wst0 hg).elim fun q h => ⟨q, fun _ => h⟩
    | 1 => exact (wst1 hg).elim fun q h => ⟨q, fun _ => h⟩
    | 2 => exact (wst2 hg).elim fun q h => ⟨q, fun _ => h⟩
    | 3 => exact (wst3 hg).elim fun q h => ⟨q, fun _ => h⟩
    | 4 => exact (wst4 hg).elim fun q h => ⟨q, fun _ => h⟩
    | 5 => exact (wst5 hg).elim fun q h => ⟨q, fun _ => h⟩
    | 6 => exact (wst6 hg).elim fun q h => ⟨q, fun _ => h⟩
    | 7 => exact (wst7 hg).elim fun q h => ⟨q, fun _ => h⟩
    | 8 => exact (wst8 hg).elim fun q h => ⟨q, fun _ => h⟩
    | 9 => exact (wst9 hg).elim fun q h => ⟨q, fun _ => h⟩
    | 10 => exact (wst10 hg).elim fun q h => ⟨q, fun _ => h⟩
    | 11 => exact (wst11 hg).elim fun q h => ⟨q, fun _ => h⟩
    | 12 => exact (wst12 hg).elim fun q h => ⟨q, fun _ => h⟩
    | 13 => exact (wst13 hg).elim fun q h => ⟨q, fun _ => h⟩
    | 14 => exact (wst14 hg).elim fun q h => ⟨q, fun _ => h⟩
    | 15 => exact (wst15 hg).elim fun q h => ⟨q, fun _ => h⟩
    | 16 => exact (wst16 hg).elim fun q h => ⟨q, fun _ => h⟩
    | 17 => exact (wst17 hg).elim fun q h => ⟨q, fun _ => h⟩
    | 18 => exact (wst18 hg).elim fun q h => ⟨q, fun _ => h⟩
    | 19 => exact (wst19 hg).elim fun q h => ⟨q, fun _ => h⟩
    | 20 => exact (wst20 hg).elim fun q h => ⟨q, fun _ => h⟩
    | 21 => exact (wst21 hg).elim fun q h => ⟨q, fun _ => h⟩
    | 22 => exact (wst22 hg).elim fun q h => ⟨q, fun _ => h⟩
    | i + 23 => exact ⟨(0, 0), fun h => absurd h (by omega)⟩
  obtain ⟨ad, had⟩ := Classical.axiomOfChoice h0
  exact ⟨ad, fun i hi => had i hi⟩
theorem el_of {b : Nat} {s : State} {t u : Jvm.Term} {y : Nat} (h : (Jvm.Cond.eq t u).before #[Value.ref b] s = true) (hu : u.eval #[Value.ref b] s none [] s = some (.ref y)) : t.eval #[Value.ref b] s none [] s = some (.ref y) := Cond.eq_refs h hu rfl
theorem st_words {b : Nat} {s : State} (hg : (Jvm.Cond.and given_1 narrow_1).before #[Value.ref b] s = true) {ad : Nat → Nat × Nat} (h : ∀ i, i < 23 → SOk s b (txN i) (wdL i) (ad i).1 (ad i).2) : ∃ t : Nat, (Jvm.Term.static "ShutDays$Tokens" "WORDS" "[Ljava/lang/String;").eval #[Value.ref b] s none [] s = some (.ref t) ∧ va_T (.object "java/lang/String") t 22 (fun j => .ref (ad j).1) (AS s) s s.heap := by
  refine va_Tof (by decide) (nw9 hg) (va_eqt (nw10 hg)) (fun j hj => ?_) AS_no
  match j, hj with
  | 0, _ => exact el_of (nw11 hg) (h 0 (by decide)).1
  | 1, _ => exact el_of (nw12 hg) (h 1 (by decide)).1
  | 2, _ => exact el_of (nw13 hg) (h 2 (by decide)).1
  | 3, _ => exact el_of (nw14 hg) (h 3 (by decide)).1
  | 4, _ => exact el_of (nw15 hg) (h 4 (by decide)).1
  | 5, _ => exact el_of (nw16 hg) (h 5 (by decide)).1
  | 6, _ => exact el_of (nw17 hg) (h 6 (by decide)).1
  | 7, _ => exact el_of (nw18 hg) (h 7 (by decide)).1
  | 8, _ => exact el_of (nw19 hg) (h 8 (by decide)).1
  | 9, _ => exact el_of (nw20 hg) (h 9 (by decide)).1
  | 10, _ => exact el_of (nw21 hg) (h 10 (by decide)).1
  | 11, _ => exact el_of (nw22 hg) (h 11 (by decide)).1
  | 12, _ => exact el_of (nw23 hg) (h 12 (by decide)).1
  | 13, _ => exact el_of (nw24 hg) (h 13 (by decide)).1
  | 14, _ => exact el_of (nw25 hg) (h 14 (by decide)).1
  | 15, _ => exact el_of (nw26 hg) (h 15 (by decide)).1
  | 16, _ => exact el_of (nw27 hg) (h 16 (by decide)).1
  | 17, _ => exact el_of (nw28 hg) (h 17 (by decide)).1
  | 18, _ => exact el_of (nw29 hg) (h 18 (by decide)).1
  | 19, _ => exact el_of (nw30 hg) (h 19 (by decide)).1
  | 20, _ => exact el_of (nw31 hg) (h 20 (by decide)).1
  | 21, _ => exact el_of (nw32 hg) (h 21 (by decide)).1
  | j + 22, h => omega
