/-! ROWS: one instruction each, over AW; those that leave the heap as it is (printed by tools/gen_rows.py) -/
set_option maxRecDepth 100000
section ROWS
variable {d : Nat} {M : Mt} {h : AH} {pc pc2 : Nat} {ls : List (Option Value)} {st : List Value} {o : OR} {h2 : AH}
theorem AW.iconst {n : Int} {v : Int32} (hd : decode M.2.1 pc = .ok (.iconst n, 1)) (hv : Int32.ofInt n = v) (hp : pc + 1 = pc2) (k : AW d M h pc2 ls (.int v :: st) o h2) : AW d M h pc ls st o h2 := by
  subst hp
  exact AW.lift k rfl (fun E p e R s m args below meth c n0 H locs cells slots Q A C hR hS hL hz kk => lv_iconst C.1 C.2.1 hd hv (kk A hL))
theorem AW.bipush {n : Int} {v : Int32} (hd : decode M.2.1 pc = .ok (.bipush n, 2)) (hv : (Int8.ofInt n).toInt32 = v) (hp : pc + 2 = pc2) (k : AW d M h pc2 ls (.int v :: st) o h2) : AW d M h pc ls st o h2 := by
  subst hp
  exact AW.lift k rfl (fun E p e R s m args below meth c n0 H locs cells slots Q A C hR hS hL hz kk => lv_bipush C.1 C.2.1 hd hv (kk A hL))
theorem AW.sipush {n : Int} {v : Int32} (hd : decode M.2.1 pc = .ok (.sipush n, 3)) (hv : (Int16.ofInt n).toInt32 = v) (hp : pc + 3 = pc2) (k : AW d M h pc2 ls (.int v :: st) o h2) : AW d M h pc ls st o h2 := by
  subst hp
  exact AW.lift k rfl (fun E p e R s m args below meth c n0 H locs cells slots Q A C hR hS hL hz kk => lv_sipush C.1 C.2.1 hd hv (kk A hL))
theorem AW.lconst {n : Fin 2} {v : Int64} (hd : decode M.2.1 pc = .ok (.lconst n, 1)) (hv : Int64.ofNat (n : Nat) = v) (hp : pc + 1 = pc2) (k : AW d M h pc2 ls (.long v :: st) o h2) : AW d M h pc ls st o h2 := by
  subst hp
  exact AW.lift k rfl (fun E p e R s m args below meth c n0 H locs cells slots Q A C hR hS hL hz kk => lv_lconst C.1 C.2.1 hd hv (kk A hL))
theorem AW.null  (hd : decode M.2.1 pc = .ok (.aconst_null, 1)) (hp : pc + 1 = pc2) (k : AW d M h pc2 ls (.null :: st) o h2) : AW d M h pc ls st o h2 := by
  subst hp
  exact AW.lift k rfl (fun E p e R s m args below meth c n0 H locs cells slots Q A C hR hS hL hz kk => lv_null C.1 C.2.1 hd (kk A hL))
theorem AW.ldc {i : Nat} {v : Int32} (hd : decode M.2.1 pc = .ok (.ldc i, 2)) (hc : Cond.constant M.1.cls i v ∈ lw_all) (hp : pc + 2 = pc2) (k : AW d M h pc2 ls (.int v :: st) o h2) : AW d M h pc ls st o h2 := by
  subst hp
  exact AW.lift k rfl (fun E p e R s m args below meth c n0 H locs cells slots Q A C hR hS hL hz kk => lv_ldc C.1 C.2.1 C.2.2.2.2.1 (C.2.2.2.2.2.1 _ hc) hd (kk A hL))
theorem AW.ldcw {i : Nat} {v : Int32} (hd : decode M.2.1 pc = .ok (.ldc_w i, 3)) (hc : Cond.constant M.1.cls i v ∈ lw_all) (hp : pc + 3 = pc2) (k : AW d M h pc2 ls (.int v :: st) o h2) : AW d M h pc ls st o h2 := by
  subst hp
  exact AW.lift k rfl (fun E p e R s m args below meth c n0 H locs cells slots Q A C hR hS hL hz kk => lv_ldcw C.1 C.2.1 C.2.2.2.2.1 (C.2.2.2.2.2.1 _ hc) hd (kk A hL))
theorem AW.ldc2 {i : Nat} {v : Int64} (hd : decode M.2.1 pc = .ok (.ldc2_w i, 3)) (hc : Cond.constantLong M.1.cls i v ∈ lw_all) (hp : pc + 3 = pc2) (k : AW d M h pc2 ls (.long v :: st) o h2) : AW d M h pc ls st o h2 := by
  subst hp
  exact AW.lift k rfl (fun E p e R s m args below meth c n0 H locs cells slots Q A C hR hS hL hz kk => lv_ldc2 C.1 C.2.1 C.2.2.2.2.1 (C.2.2.2.2.2.1 _ hc) hd (kk A hL))
theorem AW.iload_n {q : Fin 4} {x : Int32} (hd : decode M.2.1 pc = .ok (.iload_n q, 1)) (hl : ls[(q : Nat)]? = some (some (.int x))) (hp : pc + 1 = pc2) (k : AW d M h pc2 ls (.int x :: st) o h2) : AW d M h pc ls st o h2 := by
  subst hp
  exact AW.lift k rfl (fun E p e R s m args below meth c n0 H locs cells slots Q A C hR hS hL hz kk => lv_iload_n C.1 C.2.1 hd rfl (hL.at hl) (kk A hL))
theorem AW.iload {q : Nat} {x : Int32} (hd : decode M.2.1 pc = .ok (.iload q, 2)) (hl : ls[q]? = some (some (.int x))) (hp : pc + 2 = pc2) (k : AW d M h pc2 ls (.int x :: st) o h2) : AW d M h pc ls st o h2 := by
  subst hp
  exact AW.lift k rfl (fun E p e R s m args below meth c n0 H locs cells slots Q A C hR hS hL hz kk => lv_iload C.1 C.2.1 hd (hL.at hl) (kk A hL))
theorem AW.lload_n {q : Fin 4} {x : Int64} (hd : decode M.2.1 pc = .ok (.lload_n q, 1)) (hl : ls[(q : Nat)]? = some (some (.long x))) (hp : pc + 1 = pc2) (k : AW d M h pc2 ls (.long x :: st) o h2) : AW d M h pc ls st o h2 := by
  subst hp
  exact AW.lift k rfl (fun E p e R s m args below meth c n0 H locs cells slots Q A C hR hS hL hz kk => lv_lload_n C.1 C.2.1 hd rfl (hL.at hl) (kk A hL))
theorem AW.lload {q : Nat} {x : Int64} (hd : decode M.2.1 pc = .ok (.lload q, 2)) (hl : ls[q]? = some (some (.long x))) (hp : pc + 2 = pc2) (k : AW d M h pc2 ls (.long x :: st) o h2) : AW d M h pc ls st o h2 := by
  subst hp
  exact AW.lift k rfl (fun E p e R s m args below meth c n0 H locs cells slots Q A C hR hS hL hz kk => lv_lload C.1 C.2.1 hd (hL.at hl) (kk A hL))
theorem AW.aload_n {q : Fin 4} {x : Nat} (hd : decode M.2.1 pc = .ok (.aload_n q, 1)) (hl : ls[(q : Nat)]? = some (some (.ref x))) (hp : pc + 1 = pc2) (k : AW d M h pc2 ls (.ref x :: st) o h2) : AW d M h pc ls st o h2 := by
  subst hp
  exact AW.lift k rfl (fun E p e R s m args below meth c n0 H locs cells slots Q A C hR hS hL hz kk => lv_aload_n C.1 C.2.1 hd rfl (hL.at hl) (kk A hL))
theorem AW.aload {q : Nat} {x : Nat} (hd : decode M.2.1 pc = .ok (.aload q, 2)) (hl : ls[q]? = some (some (.ref x))) (hp : pc + 2 = pc2) (k : AW d M h pc2 ls (.ref x :: st) o h2) : AW d M h pc ls st o h2 := by
  subst hp
  exact AW.lift k rfl (fun E p e R s m args below meth c n0 H locs cells slots Q A C hR hS hL hz kk => lv_aload C.1 C.2.1 hd (hL.at hl) (kk A hL))
theorem AW.aload_nN {q : Fin 4} (hd : decode M.2.1 pc = .ok (.aload_n q, 1)) (hl : ls[(q : Nat)]? = some (some .null)) (hp : pc + 1 = pc2) (k : AW d M h pc2 ls (.null :: st) o h2) : AW d M h pc ls st o h2 := by
  subst hp
  exact AW.lift k rfl (fun E p e R s m args below meth c n0 H locs cells slots Q A C hR hS hL hz kk => lv_aload_nN C.1 C.2.1 hd rfl (hL.at hl) (kk A hL))
theorem AW.aloadN {q : Nat} (hd : decode M.2.1 pc = .ok (.aload q, 2)) (hl : ls[q]? = some (some .null)) (hp : pc + 2 = pc2) (k : AW d M h pc2 ls (.null :: st) o h2) : AW d M h pc ls st o h2 := by
  subst hp
  exact AW.lift k rfl (fun E p e R s m args below meth c n0 H locs cells slots Q A C hR hS hL hz kk => lv_aloadN C.1 C.2.1 hd (hL.at hl) (kk A hL))
theorem AW.istore_n {q : Fin 4} {x : Int32} {i : Nat} (hd : decode M.2.1 pc = .ok (.istore_n q, 1)) (hi : (q : Nat) = i) (ho : okst ls i = true) (hn : i < ls.length) {ls2 : List (Option Value)} (hq : (ls.set i (some (.int x))) = ls2) (hp : pc + 1 = pc2) (k : AW d M h pc2 ls2 st o h2) : AW d M h pc ls (.int x :: st) o h2 := by
  subst hp
  subst hq
  subst hi
  exact AW.lift k (by rw [List.length_set]) (fun E p e R s m args below meth c n0 H locs cells slots Q A C hR hS hL hz kk => lv_istore_n C.1 C.2.1 hd rfl hL.has hn rfl (fun A2 hA2 => kk A2 (LR.store1 ho hn hA2)))
theorem AW.istore {q : Nat} {x : Int32} (hd : decode M.2.1 pc = .ok (.istore q, 2)) (ho : okst ls q = true) (hn : q < ls.length) {ls2 : List (Option Value)} (hq : (ls.set q (some (.int x))) = ls2) (hp : pc + 2 = pc2) (k : AW d M h pc2 ls2 st o h2) : AW d M h pc ls (.int x :: st) o h2 := by
  subst hp
  subst hq
  exact AW.lift k (by rw [List.length_set]) (fun E p e R s m args below meth c n0 H locs cells slots Q A C hR hS hL hz kk => lv_istore C.1 C.2.1 hd hL.has hn rfl (fun A2 hA2 => kk A2 (LR.store1 ho hn hA2)))
theorem AW.lstore_n {q : Fin 4} {x : Int64} {i : Nat} (hd : decode M.2.1 pc = .ok (.lstore_n q, 1)) (hi : (q : Nat) = i) (ho : okst ls i = true) (hn : i + 1 < ls.length) {ls2 : List (Option Value)} (hq : ((ls.set i (some (.long x))).set (i + 1) none) = ls2) (hp : pc + 1 = pc2) (k : AW d M h pc2 ls2 st o h2) : AW d M h pc ls (.long x :: st) o h2 := by
  subst hp
  subst hq
  subst hi
  exact AW.lift k (by rw [List.length_set, List.length_set]) (fun E p e R s m args below meth c n0 H locs cells slots Q A C hR hS hL hz kk => lv_lstore_n C.1 C.2.1 hd rfl hL.has hn rfl (fun A2 hA2 => kk A2 (LR.store2 ho hn hA2)))
theorem AW.lstore {q : Nat} {x : Int64} (hd : decode M.2.1 pc = .ok (.lstore q, 2)) (ho : okst ls q = true) (hn : q + 1 < ls.length) {ls2 : List (Option Value)} (hq : ((ls.set q (some (.long x))).set (q + 1) none) = ls2) (hp : pc + 2 = pc2) (k : AW d M h pc2 ls2 st o h2) : AW d M h pc ls (.long x :: st) o h2 := by
  subst hp
  subst hq
  exact AW.lift k (by rw [List.length_set, List.length_set]) (fun E p e R s m args below meth c n0 H locs cells slots Q A C hR hS hL hz kk => lv_lstore C.1 C.2.1 hd hL.has hn rfl (fun A2 hA2 => kk A2 (LR.store2 ho hn hA2)))
theorem AW.astore_n {q : Fin 4} {x : Nat} {i : Nat} (hd : decode M.2.1 pc = .ok (.astore_n q, 1)) (hi : (q : Nat) = i) (ho : okst ls i = true) (hn : i < ls.length) {ls2 : List (Option Value)} (hq : (ls.set i (some (.ref x))) = ls2) (hp : pc + 1 = pc2) (k : AW d M h pc2 ls2 st o h2) : AW d M h pc ls (.ref x :: st) o h2 := by
  subst hp
  subst hq
  subst hi
  exact AW.lift k (by rw [List.length_set]) (fun E p e R s m args below meth c n0 H locs cells slots Q A C hR hS hL hz kk => lv_astore_n C.1 C.2.1 hd rfl hL.has hn rfl (fun A2 hA2 => kk A2 (LR.store1 ho hn hA2)))
theorem AW.astore {q : Nat} {x : Nat} (hd : decode M.2.1 pc = .ok (.astore q, 2)) (ho : okst ls q = true) (hn : q < ls.length) {ls2 : List (Option Value)} (hq : (ls.set q (some (.ref x))) = ls2) (hp : pc + 2 = pc2) (k : AW d M h pc2 ls2 st o h2) : AW d M h pc ls (.ref x :: st) o h2 := by
  subst hp
  subst hq
  exact AW.lift k (by rw [List.length_set]) (fun E p e R s m args below meth c n0 H locs cells slots Q A C hR hS hL hz kk => lv_astore C.1 C.2.1 hd hL.has hn rfl (fun A2 hA2 => kk A2 (LR.store1 ho hn hA2)))
theorem AW.astore_nN {q : Fin 4} {i : Nat} (hd : decode M.2.1 pc = .ok (.astore_n q, 1)) (hi : (q : Nat) = i) (ho : okst ls i = true) (hn : i < ls.length) {ls2 : List (Option Value)} (hq : (ls.set i (some (.null))) = ls2) (hp : pc + 1 = pc2) (k : AW d M h pc2 ls2 st o h2) : AW d M h pc ls (.null :: st) o h2 := by
  subst hp
  subst hq
  subst hi
  exact AW.lift k (by rw [List.length_set]) (fun E p e R s m args below meth c n0 H locs cells slots Q A C hR hS hL hz kk => lv_astore_nN C.1 C.2.1 hd rfl hL.has hn rfl (fun A2 hA2 => kk A2 (LR.store1 ho hn hA2)))
theorem AW.astoreN {q : Nat} (hd : decode M.2.1 pc = .ok (.astore q, 2)) (ho : okst ls q = true) (hn : q < ls.length) {ls2 : List (Option Value)} (hq : (ls.set q (some (.null))) = ls2) (hp : pc + 2 = pc2) (k : AW d M h pc2 ls2 st o h2) : AW d M h pc ls (.null :: st) o h2 := by
  subst hp
  subst hq
  exact AW.lift k (by rw [List.length_set]) (fun E p e R s m args below meth c n0 H locs cells slots Q A C hR hS hL hz kk => lv_astoreN C.1 C.2.1 hd hL.has hn rfl (fun A2 hA2 => kk A2 (LR.store1 ho hn hA2)))
theorem AW.iinc {q : Nat} {n : Int} {x v : Int32} (hd : decode M.2.1 pc = .ok (.iinc q n, 3)) (hl : ls[q]? = some (some (.int x))) (hv : Int32.ofInt n = v) (ho : okst ls q = true) {ls2 : List (Option Value)} (hq : ls.set q (some (.int (x + v))) = ls2) (hp : pc + 3 = pc2) (k : AW d M h pc2 ls2 st o h2) : AW d M h pc ls st o h2 := by
  subst hp
  subst hq
  subst hv
  have hn : q < ls.length := (List.getElem?_eq_some_iff.mp hl).1
  have hm := loL_mem 0 q _ hl
  rw [Nat.zero_add] at hm
  refine AW.lift k (by rw [List.length_set]) (fun E p e R s m args below meth c n0 H locs cells slots Q A C hR hS hL hz kk => ?_)
  have hm2 : (q, Value.int x) ∈ (loL 0 ls).map (fun q => (q.1, cv E q.2)) := List.mem_map.mpr ⟨_, hm, rfl⟩
  obtain ⟨i, hi⟩ := List.getElem?_of_mem hm2
  exact lv_iinc C.1 C.2.1 hd hL.has hi rfl hn rfl (fun A2 hA2 => kk A2 (LR.store1 (v := .int (x + Int32.ofInt n)) ho hn hA2))
theorem AW.iincW {q : Nat} {n : Int} {x v : Int32} (hd : decode M.2.1 pc = .ok (.iinc q n, 6)) (hl : ls[q]? = some (some (.int x))) (hv : Int32.ofInt n = v) (ho : okst ls q = true) {ls2 : List (Option Value)} (hq : ls.set q (some (.int (x + v))) = ls2) (hp : pc + 6 = pc2) (k : AW d M h pc2 ls2 st o h2) : AW d M h pc ls st o h2 := by
  subst hp
  subst hq
  subst hv
  have hn : q < ls.length := (List.getElem?_eq_some_iff.mp hl).1
  have hm := loL_mem 0 q _ hl
  rw [Nat.zero_add] at hm
  refine AW.lift k (by rw [List.length_set]) (fun E p e R s m args below meth c n0 H locs cells slots Q A C hR hS hL hz kk => ?_)
  have hm2 : (q, Value.int x) ∈ (loL 0 ls).map (fun q => (q.1, cv E q.2)) := List.mem_map.mpr ⟨_, hm, rfl⟩
  obtain ⟨i, hi⟩ := List.getElem?_of_mem hm2
  exact lv_iincW C.1 C.2.1 hd hL.has hi rfl hn rfl (fun A2 hA2 => kk A2 (LR.store1 (v := .int (x + Int32.ofInt n)) ho hn hA2))
theorem AW.iadd {x y : Int32} (hd : decode M.2.1 pc = .ok (.iadd, 1)) (hp : pc + 1 = pc2) (k : AW d M h pc2 ls (.int (x + y) :: st) o h2) : AW d M h pc ls (.int y :: .int x :: st) o h2 := by
  subst hp
  exact AW.lift k rfl (fun E p e R s m args below meth c n0 H locs cells slots Q A C hR hS hL hz kk => lv_iadd C.1 C.2.1 hd (kk A hL))
theorem AW.isub {x y : Int32} (hd : decode M.2.1 pc = .ok (.isub, 1)) (hp : pc + 1 = pc2) (k : AW d M h pc2 ls (.int (x - y) :: st) o h2) : AW d M h pc ls (.int y :: .int x :: st) o h2 := by
  subst hp
  exact AW.lift k rfl (fun E p e R s m args below meth c n0 H locs cells slots Q A C hR hS hL hz kk => lv_isub C.1 C.2.1 hd (kk A hL))
theorem AW.imul {x y : Int32} (hd : decode M.2.1 pc = .ok (.imul, 1)) (hp : pc + 1 = pc2) (k : AW d M h pc2 ls (.int (x * y) :: st) o h2) : AW d M h pc ls (.int y :: .int x :: st) o h2 := by
  subst hp
  exact AW.lift k rfl (fun E p e R s m args below meth c n0 H locs cells slots Q A C hR hS hL hz kk => lv_imul C.1 C.2.1 hd (kk A hL))
theorem AW.iand {x y : Int32} (hd : decode M.2.1 pc = .ok (.iand, 1)) (hp : pc + 1 = pc2) (k : AW d M h pc2 ls (.int (x &&& y) :: st) o h2) : AW d M h pc ls (.int y :: .int x :: st) o h2 := by
  subst hp
  exact AW.lift k rfl (fun E p e R s m args below meth c n0 H locs cells slots Q A C hR hS hL hz kk => lv_iand C.1 C.2.1 hd (kk A hL))
theorem AW.ior {x y : Int32} (hd : decode M.2.1 pc = .ok (.ior, 1)) (hp : pc + 1 = pc2) (k : AW d M h pc2 ls (.int (x ||| y) :: st) o h2) : AW d M h pc ls (.int y :: .int x :: st) o h2 := by
  subst hp
  exact AW.lift k rfl (fun E p e R s m args below meth c n0 H locs cells slots Q A C hR hS hL hz kk => lv_ior C.1 C.2.1 hd (kk A hL))
theorem AW.ixor {x y : Int32} (hd : decode M.2.1 pc = .ok (.ixor, 1)) (hp : pc + 1 = pc2) (k : AW d M h pc2 ls (.int (x ^^^ y) :: st) o h2) : AW d M h pc ls (.int y :: .int x :: st) o h2 := by
  subst hp
  exact AW.lift k rfl (fun E p e R s m args below meth c n0 H locs cells slots Q A C hR hS hL hz kk => lv_ixor C.1 C.2.1 hd (kk A hL))
theorem AW.ishl {x y : Int32} (hd : decode M.2.1 pc = .ok (.ishl, 1)) (hp : pc + 1 = pc2) (k : AW d M h pc2 ls (.int (x <<< (y &&& 31)) :: st) o h2) : AW d M h pc ls (.int y :: .int x :: st) o h2 := by
  subst hp
  exact AW.lift k rfl (fun E p e R s m args below meth c n0 H locs cells slots Q A C hR hS hL hz kk => lv_ishl C.1 C.2.1 hd (kk A hL))
theorem AW.ishr {x y : Int32} (hd : decode M.2.1 pc = .ok (.ishr, 1)) (hp : pc + 1 = pc2) (k : AW d M h pc2 ls (.int (x >>> (y &&& 31)) :: st) o h2) : AW d M h pc ls (.int y :: .int x :: st) o h2 := by
  subst hp
  exact AW.lift k rfl (fun E p e R s m args below meth c n0 H locs cells slots Q A C hR hS hL hz kk => lv_ishr C.1 C.2.1 hd (kk A hL))
theorem AW.ladd {x y : Int64} (hd : decode M.2.1 pc = .ok (.ladd, 1)) (hp : pc + 1 = pc2) (k : AW d M h pc2 ls (.long (x + y) :: st) o h2) : AW d M h pc ls (.long y :: .long x :: st) o h2 := by
  subst hp
  exact AW.lift k rfl (fun E p e R s m args below meth c n0 H locs cells slots Q A C hR hS hL hz kk => lv_ladd C.1 C.2.1 hd (kk A hL))
theorem AW.lsub {x y : Int64} (hd : decode M.2.1 pc = .ok (.lsub, 1)) (hp : pc + 1 = pc2) (k : AW d M h pc2 ls (.long (x - y) :: st) o h2) : AW d M h pc ls (.long y :: .long x :: st) o h2 := by
  subst hp
  exact AW.lift k rfl (fun E p e R s m args below meth c n0 H locs cells slots Q A C hR hS hL hz kk => lv_lsub C.1 C.2.1 hd (kk A hL))
theorem AW.lmul {x y : Int64} (hd : decode M.2.1 pc = .ok (.lmul, 1)) (hp : pc + 1 = pc2) (k : AW d M h pc2 ls (.long (x * y) :: st) o h2) : AW d M h pc ls (.long y :: .long x :: st) o h2 := by
  subst hp
  exact AW.lift k rfl (fun E p e R s m args below meth c n0 H locs cells slots Q A C hR hS hL hz kk => lv_lmul C.1 C.2.1 hd (kk A hL))
theorem AW.land {x y : Int64} (hd : decode M.2.1 pc = .ok (.land, 1)) (hp : pc + 1 = pc2) (k : AW d M h pc2 ls (.long (x &&& y) :: st) o h2) : AW d M h pc ls (.long y :: .long x :: st) o h2 := by
  subst hp
  exact AW.lift k rfl (fun E p e R s m args below meth c n0 H locs cells slots Q A C hR hS hL hz kk => lv_land C.1 C.2.1 hd (kk A hL))
theorem AW.lor {x y : Int64} (hd : decode M.2.1 pc = .ok (.lor, 1)) (hp : pc + 1 = pc2) (k : AW d M h pc2 ls (.long (x ||| y) :: st) o h2) : AW d M h pc ls (.long y :: .long x :: st) o h2 := by
  subst hp
  exact AW.lift k rfl (fun E p e R s m args below meth c n0 H locs cells slots Q A C hR hS hL hz kk => lv_lor C.1 C.2.1 hd (kk A hL))
theorem AW.lxor {x y : Int64} (hd : decode M.2.1 pc = .ok (.lxor, 1)) (hp : pc + 1 = pc2) (k : AW d M h pc2 ls (.long (x ^^^ y) :: st) o h2) : AW d M h pc ls (.long y :: .long x :: st) o h2 := by
  subst hp
  exact AW.lift k rfl (fun E p e R s m args below meth c n0 H locs cells slots Q A C hR hS hL hz kk => lv_lxor C.1 C.2.1 hd (kk A hL))
theorem AW.idiv {x y : Int32} (hd : decode M.2.1 pc = .ok (.idiv, 1)) (hne : ¬ y = 0) (hp : pc + 1 = pc2) (k : AW d M h pc2 ls (.int (x / y) :: st) o h2) : AW d M h pc ls (.int y :: .int x :: st) o h2 := by
  subst hp
  exact AW.lift k rfl (fun E p e R s m args below meth c n0 H locs cells slots Q A C hR hS hL hz kk => lv_idiv C.1 C.2.1 hd hne (kk A hL))
theorem AW.ldiv {x y : Int64} (hd : decode M.2.1 pc = .ok (.ldiv, 1)) (hne : ¬ y = 0) (hp : pc + 1 = pc2) (k : AW d M h pc2 ls (.long (x / y) :: st) o h2) : AW d M h pc ls (.long y :: .long x :: st) o h2 := by
  subst hp
  exact AW.lift k rfl (fun E p e R s m args below meth c n0 H locs cells slots Q A C hR hS hL hz kk => lv_ldiv C.1 C.2.1 hd hne (kk A hL))
theorem AW.irem {x y : Int32} (hd : decode M.2.1 pc = .ok (.irem, 1)) (hne : ¬ y = 0) (hp : pc + 1 = pc2) (k : AW d M h pc2 ls (.int (x % y) :: st) o h2) : AW d M h pc ls (.int y :: .int x :: st) o h2 := by
  subst hp
  exact AW.lift k rfl (fun E p e R s m args below meth c n0 H locs cells slots Q A C hR hS hL hz kk => lv_irem C.1 C.2.1 hd hne (by rw [irem_eq_mod]; exact kk A hL))
theorem AW.lrem {x y : Int64} (hd : decode M.2.1 pc = .ok (.lrem, 1)) (hne : ¬ y = 0) (hp : pc + 1 = pc2) (k : AW d M h pc2 ls (.long (x % y) :: st) o h2) : AW d M h pc ls (.long y :: .long x :: st) o h2 := by
  subst hp
  exact AW.lift k rfl (fun E p e R s m args below meth c n0 H locs cells slots Q A C hR hS hL hz kk => lv_lrem C.1 C.2.1 hd hne (by rw [lrem_eq_mod]; exact kk A hL))
theorem AW.ineg {x : Int32} (hd : decode M.2.1 pc = .ok (.ineg, 1)) (hp : pc + 1 = pc2) (k : AW d M h pc2 ls (.int (-x) :: st) o h2) : AW d M h pc ls (.int x :: st) o h2 := by
  subst hp
  exact AW.lift k rfl (fun E p e R s m args below meth c n0 H locs cells slots Q A C hR hS hL hz kk => lv_ineg C.1 C.2.1 hd (kk A hL))
theorem AW.lneg {x : Int64} (hd : decode M.2.1 pc = .ok (.lneg, 1)) (hp : pc + 1 = pc2) (k : AW d M h pc2 ls (.long (-x) :: st) o h2) : AW d M h pc ls (.long x :: st) o h2 := by
  subst hp
  exact AW.lift k rfl (fun E p e R s m args below meth c n0 H locs cells slots Q A C hR hS hL hz kk => lv_lneg C.1 C.2.1 hd (kk A hL))
theorem AW.i2l {x : Int32} (hd : decode M.2.1 pc = .ok (.i2l, 1)) (hp : pc + 1 = pc2) (k : AW d M h pc2 ls (.long x.toInt64 :: st) o h2) : AW d M h pc ls (.int x :: st) o h2 := by
  subst hp
  exact AW.lift k rfl (fun E p e R s m args below meth c n0 H locs cells slots Q A C hR hS hL hz kk => lv_i2l C.1 C.2.1 hd rfl (kk A hL))
theorem AW.l2i {x : Int64} (hd : decode M.2.1 pc = .ok (.l2i, 1)) (hp : pc + 1 = pc2) (k : AW d M h pc2 ls (.int x.toInt32 :: st) o h2) : AW d M h pc ls (.long x :: st) o h2 := by
  subst hp
  exact AW.lift k rfl (fun E p e R s m args below meth c n0 H locs cells slots Q A C hR hS hL hz kk => lv_l2i C.1 C.2.1 hd rfl (kk A hL))
theorem AW.i2b {x : Int32} (hd : decode M.2.1 pc = .ok (.i2b, 1)) (hp : pc + 1 = pc2) (k : AW d M h pc2 ls (.int x.toInt8.toInt32 :: st) o h2) : AW d M h pc ls (.int x :: st) o h2 := by
  subst hp
  exact AW.lift k rfl (fun E p e R s m args below meth c n0 H locs cells slots Q A C hR hS hL hz kk => lv_i2b C.1 C.2.1 hd rfl (kk A hL))
theorem AW.i2c {x : Int32} (hd : decode M.2.1 pc = .ok (.i2c, 1)) (hp : pc + 1 = pc2) (k : AW d M h pc2 ls (.int (x.toUInt32 % 65536).toInt32 :: st) o h2) : AW d M h pc ls (.int x :: st) o h2 := by
  subst hp
  exact AW.lift k rfl (fun E p e R s m args below meth c n0 H locs cells slots Q A C hR hS hL hz kk => lv_i2c C.1 C.2.1 hd rfl (kk A hL))
theorem AW.iushr {x y : Int32} (hd : decode M.2.1 pc = .ok (.iushr, 1)) (hp : pc + 1 = pc2) (k : AW d M h pc2 ls (.int (x.toUInt32 >>> (y.toUInt32 &&& Int32.toUInt32 31)).toInt32 :: st) o h2) : AW d M h pc ls (.int y :: .int x :: st) o h2 := by
  subst hp
  exact AW.lift k rfl (fun E p e R s m args below meth c n0 H locs cells slots Q A C hR hS hL hz kk => lv_iushr C.1 C.2.1 hd rfl (kk A hL))
theorem AW.lshl {x : Int64} {y : Int32} (hd : decode M.2.1 pc = .ok (.lshl, 1)) (hp : pc + 1 = pc2) (k : AW d M h pc2 ls (.long (x <<< (y.toInt64 &&& 63)) :: st) o h2) : AW d M h pc ls (.int y :: .long x :: st) o h2 := by
  subst hp
  exact AW.lift k rfl (fun E p e R s m args below meth c n0 H locs cells slots Q A C hR hS hL hz kk => lv_lshl C.1 C.2.1 hd rfl (kk A hL))
theorem AW.lshr {x : Int64} {y : Int32} (hd : decode M.2.1 pc = .ok (.lshr, 1)) (hp : pc + 1 = pc2) (k : AW d M h pc2 ls (.long (x >>> (y.toInt64 &&& 63)) :: st) o h2) : AW d M h pc ls (.int y :: .long x :: st) o h2 := by
  subst hp
  exact AW.lift k rfl (fun E p e R s m args below meth c n0 H locs cells slots Q A C hR hS hL hz kk => lv_lshr C.1 C.2.1 hd rfl (kk A hL))
theorem AW.lcmp {x y : Int64} (hd : decode M.2.1 pc = .ok (.lcmp, 1)) (hp : pc + 1 = pc2) (k : AW d M h pc2 ls (.int (lg_cmp x y) :: st) o h2) : AW d M h pc ls (.long y :: .long x :: st) o h2 := by
  subst hp
  exact AW.lift k rfl (fun E p e R s m args below meth c n0 H locs cells slots Q A C hR hS hL hz kk => W.lcmp C.1 C.2.1 hd (kk A hL))
theorem AW.dup {v : Value} (hd : decode M.2.1 pc = .ok (.dup, 1)) (hv : v.category = 1) (hp : pc + 1 = pc2) (k : AW d M h pc2 ls (v :: v :: st) o h2) : AW d M h pc ls (v :: st) o h2 := by
  subst hp
  exact AW.lift k rfl (fun E p e R s m args below meth c n0 H locs cells slots Q A C hR hS hL hz kk => lv_dup C.1 C.2.1 hd (by rw [cv_cat]; exact hv) (kk A hL))
theorem AW.pop {v : Value} (hd : decode M.2.1 pc = .ok (.pop, 1)) (hv : v.category = 1) (hp : pc + 1 = pc2) (k : AW d M h pc2 ls st o h2) : AW d M h pc ls (v :: st) o h2 := by
  subst hp
  exact AW.lift k rfl (fun E p e R s m args below meth c n0 H locs cells slots Q A C hR hS hL hz kk => lv_pop C.1 C.2.1 hd (by rw [cv_cat]; exact hv) (kk A hL))
theorem AW.dup_x1 {v w : Value} (hd : decode M.2.1 pc = .ok (.dup_x1, 1)) (hv : v.category = 1) (hw : w.category = 1) (hp : pc + 1 = pc2) (k : AW d M h pc2 ls (v :: w :: v :: st) o h2) : AW d M h pc ls (v :: w :: st) o h2 := by
  subst hp
  exact AW.lift k rfl (fun E p e R s m args below meth c n0 H locs cells slots Q A C hR hS hL hz kk => lv_dup_x1 C.1 C.2.1 hd (by rw [cv_cat]; exact hv) (by rw [cv_cat]; exact hw) (kk A hL))
theorem AW.dup_x2 {v w z : Value} (hd : decode M.2.1 pc = .ok (.dup_x2, 1)) (hv : v.category = 1) (hw : w.category = 1) (hcz : z.category = 1) (hp : pc + 1 = pc2) (k : AW d M h pc2 ls (v :: w :: z :: v :: st) o h2) : AW d M h pc ls (v :: w :: z :: st) o h2 := by
  subst hp
  exact AW.lift k rfl (fun E p e R s m args below meth c n0 H locs cells slots Q A C hR hS hL hz kk => lv_dup_x2 C.1 C.2.1 hd (by rw [cv_cat]; exact hv) (by rw [cv_cat]; exact hw) (by rw [cv_cat]; exact hcz) (kk A hL))
theorem AW.dup2 {v w : Value} (hd : decode M.2.1 pc = .ok (.dup2, 1)) (hv : v.category = 1) (hw : w.category = 1) (hp : pc + 1 = pc2) (k : AW d M h pc2 ls (v :: w :: v :: w :: st) o h2) : AW d M h pc ls (v :: w :: st) o h2 := by
  subst hp
  exact AW.lift k rfl (fun E p e R s m args below meth c n0 H locs cells slots Q A C hR hS hL hz kk => lv_dup2_11 C.1 C.2.1 hd (by rw [cv_cat]; exact hv) (by rw [cv_cat]; exact hw) (kk A hL))
theorem AW.dup2L {x : Int64} (hd : decode M.2.1 pc = .ok (.dup2, 1)) (hp : pc + 1 = pc2) (k : AW d M h pc2 ls (.long x :: .long x :: st) o h2) : AW d M h pc ls (.long x :: st) o h2 := by
  subst hp
  exact AW.lift k rfl (fun E p e R s m args below meth c n0 H locs cells slots Q A C hR hS hL hz kk => lv_dup2_2 C.1 C.2.1 hd rfl (kk A hL))
theorem AW.pop2L {x : Int64} (hd : decode M.2.1 pc = .ok (.pop2, 1)) (hp : pc + 1 = pc2) (k : AW d M h pc2 ls st o h2) : AW d M h pc ls (.long x :: st) o h2 := by
  subst hp
  exact AW.lift k rfl (fun E p e R s m args below meth c n0 H locs cells slots Q A C hR hS hL hz kk => lv_pop2_2 C.1 C.2.1 hd rfl (kk A hL))
theorem AW.if_eq {x : Int32} {off : Int} {tgt : Nat} (hd : decode M.2.1 pc = .ok (.ifCond .eq off, 3)) (ht : (pc : Int) + off = (tgt : Int)) (hp : pc + 3 = pc2) (kt : x = 0 → AW d M h tgt ls st o h2) (kf : ¬ x = 0 → AW d M h pc2 ls st o h2) : AW d M h pc ls (.int x :: st) o h2 := by
  subst hp
  by_cases hc : x = 0
  · exact AW.lift (kt hc) rfl (fun E p e R s m args below meth c n0 H locs cells slots Q A C hR hS hL hz kk => lv_if_eq C.1 C.2.1 hd ht (fun _ => kk A hL) (fun z => by first | exact absurd hc z | exact absurd z hc))
  · exact AW.lift (kf (by first | exact hc | exact Classical.not_not.mp hc)) rfl (fun E p e R s m args below meth c n0 H locs cells slots Q A C hR hS hL hz kk => lv_if_eq C.1 C.2.1 hd ht (fun z => by first | exact absurd z hc | exact absurd hc z) (fun _ => kk A hL))
theorem AW.if_lt {x : Int32} {off : Int} {tgt : Nat} (hd : decode M.2.1 pc = .ok (.ifCond .lt off, 3)) (ht : (pc : Int) + off = (tgt : Int)) (hp : pc + 3 = pc2) (kt : x < 0 → AW d M h tgt ls st o h2) (kf : ¬ x < 0 → AW d M h pc2 ls st o h2) : AW d M h pc ls (.int x :: st) o h2 := by
  subst hp
  by_cases hc : x < 0
  · exact AW.lift (kt hc) rfl (fun E p e R s m args below meth c n0 H locs cells slots Q A C hR hS hL hz kk => lv_if_lt C.1 C.2.1 hd ht (fun _ => kk A hL) (fun z => by first | exact absurd hc z | exact absurd z hc))
  · exact AW.lift (kf (by first | exact hc | exact Classical.not_not.mp hc)) rfl (fun E p e R s m args below meth c n0 H locs cells slots Q A C hR hS hL hz kk => lv_if_lt C.1 C.2.1 hd ht (fun z => by first | exact absurd z hc | exact absurd hc z) (fun _ => kk A hL))
theorem AW.if_ge {x : Int32} {off : Int} {tgt : Nat} (hd : decode M.2.1 pc = .ok (.ifCond .ge off, 3)) (ht : (pc : Int) + off = (tgt : Int)) (hp : pc + 3 = pc2) (kt : 0 ≤ x → AW d M h tgt ls st o h2) (kf : ¬ 0 ≤ x → AW d M h pc2 ls st o h2) : AW d M h pc ls (.int x :: st) o h2 := by
  subst hp
  by_cases hc : 0 ≤ x
  · exact AW.lift (kt hc) rfl (fun E p e R s m args below meth c n0 H locs cells slots Q A C hR hS hL hz kk => lv_if_ge C.1 C.2.1 hd ht (fun _ => kk A hL) (fun z => by first | exact absurd hc z | exact absurd z hc))
  · exact AW.lift (kf (by first | exact hc | exact Classical.not_not.mp hc)) rfl (fun E p e R s m args below meth c n0 H locs cells slots Q A C hR hS hL hz kk => lv_if_ge C.1 C.2.1 hd ht (fun z => by first | exact absurd z hc | exact absurd hc z) (fun _ => kk A hL))
theorem AW.if_gt {x : Int32} {off : Int} {tgt : Nat} (hd : decode M.2.1 pc = .ok (.ifCond .gt off, 3)) (ht : (pc : Int) + off = (tgt : Int)) (hp : pc + 3 = pc2) (kt : 0 < x → AW d M h tgt ls st o h2) (kf : ¬ 0 < x → AW d M h pc2 ls st o h2) : AW d M h pc ls (.int x :: st) o h2 := by
  subst hp
  by_cases hc : 0 < x
  · exact AW.lift (kt hc) rfl (fun E p e R s m args below meth c n0 H locs cells slots Q A C hR hS hL hz kk => lv_if_gt C.1 C.2.1 hd ht (fun _ => kk A hL) (fun z => by first | exact absurd hc z | exact absurd z hc))
  · exact AW.lift (kf (by first | exact hc | exact Classical.not_not.mp hc)) rfl (fun E p e R s m args below meth c n0 H locs cells slots Q A C hR hS hL hz kk => lv_if_gt C.1 C.2.1 hd ht (fun z => by first | exact absurd z hc | exact absurd hc z) (fun _ => kk A hL))
theorem AW.if_le {x : Int32} {off : Int} {tgt : Nat} (hd : decode M.2.1 pc = .ok (.ifCond .le off, 3)) (ht : (pc : Int) + off = (tgt : Int)) (hp : pc + 3 = pc2) (kt : x ≤ 0 → AW d M h tgt ls st o h2) (kf : ¬ x ≤ 0 → AW d M h pc2 ls st o h2) : AW d M h pc ls (.int x :: st) o h2 := by
  subst hp
  by_cases hc : x ≤ 0
  · exact AW.lift (kt hc) rfl (fun E p e R s m args below meth c n0 H locs cells slots Q A C hR hS hL hz kk => lv_if_le C.1 C.2.1 hd ht (fun _ => kk A hL) (fun z => by first | exact absurd hc z | exact absurd z hc))
  · exact AW.lift (kf (by first | exact hc | exact Classical.not_not.mp hc)) rfl (fun E p e R s m args below meth c n0 H locs cells slots Q A C hR hS hL hz kk => lv_if_le C.1 C.2.1 hd ht (fun z => by first | exact absurd z hc | exact absurd hc z) (fun _ => kk A hL))
theorem AW.if_ne {x : Int32} {off : Int} {tgt : Nat} (hd : decode M.2.1 pc = .ok (.ifCond .ne off, 3)) (ht : (pc : Int) + off = (tgt : Int)) (hp : pc + 3 = pc2) (kt : ¬ x = 0 → AW d M h tgt ls st o h2) (kf : x = 0 → AW d M h pc2 ls st o h2) : AW d M h pc ls (.int x :: st) o h2 := by
  subst hp
  by_cases hc : ¬ x = 0
  · exact AW.lift (kt hc) rfl (fun E p e R s m args below meth c n0 H locs cells slots Q A C hR hS hL hz kk => lv_if_ne C.1 C.2.1 hd ht (fun _ => kk A hL) (fun z => by first | exact absurd hc z | exact absurd z hc))
  · exact AW.lift (kf (by first | exact hc | exact Classical.not_not.mp hc)) rfl (fun E p e R s m args below meth c n0 H locs cells slots Q A C hR hS hL hz kk => lv_if_ne C.1 C.2.1 hd ht (fun z => by first | exact absurd z hc | exact absurd hc z) (fun _ => kk A hL))
theorem AW.icmp_eq {x y : Int32} {off : Int} {tgt : Nat} (hd : decode M.2.1 pc = .ok (.if_icmp .eq off, 3)) (ht : (pc : Int) + off = (tgt : Int)) (hp : pc + 3 = pc2) (kt : x = y → AW d M h tgt ls st o h2) (kf : ¬ x = y → AW d M h pc2 ls st o h2) : AW d M h pc ls (.int y :: .int x :: st) o h2 := by
  subst hp
  by_cases hc : x = y
  · exact AW.lift (kt hc) rfl (fun E p e R s m args below meth c n0 H locs cells slots Q A C hR hS hL hz kk => lv_icmp_eq C.1 C.2.1 hd ht (fun _ => kk A hL) (fun z => by first | exact absurd hc z | exact absurd z hc))
  · exact AW.lift (kf (by first | exact hc | exact Classical.not_not.mp hc)) rfl (fun E p e R s m args below meth c n0 H locs cells slots Q A C hR hS hL hz kk => lv_icmp_eq C.1 C.2.1 hd ht (fun z => by first | exact absurd z hc | exact absurd hc z) (fun _ => kk A hL))
theorem AW.icmp_lt {x y : Int32} {off : Int} {tgt : Nat} (hd : decode M.2.1 pc = .ok (.if_icmp .lt off, 3)) (ht : (pc : Int) + off = (tgt : Int)) (hp : pc + 3 = pc2) (kt : x < y → AW d M h tgt ls st o h2) (kf : ¬ x < y → AW d M h pc2 ls st o h2) : AW d M h pc ls (.int y :: .int x :: st) o h2 := by
  subst hp
  by_cases hc : x < y
  · exact AW.lift (kt hc) rfl (fun E p e R s m args below meth c n0 H locs cells slots Q A C hR hS hL hz kk => lv_icmp_lt C.1 C.2.1 hd ht (fun _ => kk A hL) (fun z => by first | exact absurd hc z | exact absurd z hc))
  · exact AW.lift (kf (by first | exact hc | exact Classical.not_not.mp hc)) rfl (fun E p e R s m args below meth c n0 H locs cells slots Q A C hR hS hL hz kk => lv_icmp_lt C.1 C.2.1 hd ht (fun z => by first | exact absurd z hc | exact absurd hc z) (fun _ => kk A hL))
theorem AW.icmp_ge {x y : Int32} {off : Int} {tgt : Nat} (hd : decode M.2.1 pc = .ok (.if_icmp .ge off, 3)) (ht : (pc : Int) + off = (tgt : Int)) (hp : pc + 3 = pc2) (kt : y ≤ x → AW d M h tgt ls st o h2) (kf : ¬ y ≤ x → AW d M h pc2 ls st o h2) : AW d M h pc ls (.int y :: .int x :: st) o h2 := by
  subst hp
  by_cases hc : y ≤ x
  · exact AW.lift (kt hc) rfl (fun E p e R s m args below meth c n0 H locs cells slots Q A C hR hS hL hz kk => lv_icmp_ge C.1 C.2.1 hd ht (fun _ => kk A hL) (fun z => by first | exact absurd hc z | exact absurd z hc))
  · exact AW.lift (kf (by first | exact hc | exact Classical.not_not.mp hc)) rfl (fun E p e R s m args below meth c n0 H locs cells slots Q A C hR hS hL hz kk => lv_icmp_ge C.1 C.2.1 hd ht (fun z => by first | exact absurd z hc | exact absurd hc z) (fun _ => kk A hL))
theorem AW.icmp_gt {x y : Int32} {off : Int} {tgt : Nat} (hd : decode M.2.1 pc = .ok (.if_icmp .gt off, 3)) (ht : (pc : Int) + off = (tgt : Int)) (hp : pc + 3 = pc2) (kt : y < x → AW d M h tgt ls st o h2) (kf : ¬ y < x → AW d M h pc2 ls st o h2) : AW d M h pc ls (.int y :: .int x :: st) o h2 := by
  subst hp
  by_cases hc : y < x
  · exact AW.lift (kt hc) rfl (fun E p e R s m args below meth c n0 H locs cells slots Q A C hR hS hL hz kk => lv_icmp_gt C.1 C.2.1 hd ht (fun _ => kk A hL) (fun z => by first | exact absurd hc z | exact absurd z hc))
  · exact AW.lift (kf (by first | exact hc | exact Classical.not_not.mp hc)) rfl (fun E p e R s m args below meth c n0 H locs cells slots Q A C hR hS hL hz kk => lv_icmp_gt C.1 C.2.1 hd ht (fun z => by first | exact absurd z hc | exact absurd hc z) (fun _ => kk A hL))
theorem AW.icmp_le {x y : Int32} {off : Int} {tgt : Nat} (hd : decode M.2.1 pc = .ok (.if_icmp .le off, 3)) (ht : (pc : Int) + off = (tgt : Int)) (hp : pc + 3 = pc2) (kt : x ≤ y → AW d M h tgt ls st o h2) (kf : ¬ x ≤ y → AW d M h pc2 ls st o h2) : AW d M h pc ls (.int y :: .int x :: st) o h2 := by
  subst hp
  by_cases hc : x ≤ y
  · exact AW.lift (kt hc) rfl (fun E p e R s m args below meth c n0 H locs cells slots Q A C hR hS hL hz kk => lv_icmp_le C.1 C.2.1 hd ht (fun _ => kk A hL) (fun z => by first | exact absurd hc z | exact absurd z hc))
  · exact AW.lift (kf (by first | exact hc | exact Classical.not_not.mp hc)) rfl (fun E p e R s m args below meth c n0 H locs cells slots Q A C hR hS hL hz kk => lv_icmp_le C.1 C.2.1 hd ht (fun z => by first | exact absurd z hc | exact absurd hc z) (fun _ => kk A hL))
theorem AW.icmp_ne {x y : Int32} {off : Int} {tgt : Nat} (hd : decode M.2.1 pc = .ok (.if_icmp .ne off, 3)) (ht : (pc : Int) + off = (tgt : Int)) (hp : pc + 3 = pc2) (kt : ¬ x = y → AW d M h tgt ls st o h2) (kf : x = y → AW d M h pc2 ls st o h2) : AW d M h pc ls (.int y :: .int x :: st) o h2 := by
  subst hp
  by_cases hc : ¬ x = y
  · exact AW.lift (kt hc) rfl (fun E p e R s m args below meth c n0 H locs cells slots Q A C hR hS hL hz kk => lv_icmp_ne C.1 C.2.1 hd ht (fun _ => kk A hL) (fun z => by first | exact absurd hc z | exact absurd z hc))
  · exact AW.lift (kf (by first | exact hc | exact Classical.not_not.mp hc)) rfl (fun E p e R s m args below meth c n0 H locs cells slots Q A C hR hS hL hz kk => lv_icmp_ne C.1 C.2.1 hd ht (fun z => by first | exact absurd z hc | exact absurd hc z) (fun _ => kk A hL))
def b2i (b : Bool) : Int32 := if b then 1 else 0
theorem AW.if_eqB {x : Bool} {off : Int} {tgt : Nat} (hd : decode M.2.1 pc = .ok (.ifCond .eq off, 3)) (ht : (pc : Int) + off = (tgt : Int)) (hp : pc + 3 = pc2) (kt : x = false → AW d M h tgt ls st o h2) (kf : x = true → AW d M h pc2 ls st o h2) : AW d M h pc ls (.int (b2i x) :: st) o h2 :=
  AW.if_eq hd ht hp (fun q => kt (by cases x; rfl; exact absurd q (by decide))) (fun q => kf (by cases x; exact absurd rfl q; rfl))
theorem AW.if_neB {x : Bool} {off : Int} {tgt : Nat} (hd : decode M.2.1 pc = .ok (.ifCond .ne off, 3)) (ht : (pc : Int) + off = (tgt : Int)) (hp : pc + 3 = pc2) (kt : x = true → AW d M h tgt ls st o h2) (kf : x = false → AW d M h pc2 ls st o h2) : AW d M h pc ls (.int (b2i x) :: st) o h2 :=
  AW.if_ne hd ht hp (fun q => kt (by cases x; exact absurd rfl q; rfl)) (fun q => kf (by cases x; rfl; exact absurd q (by decide)))
theorem AW.goto {off : Int} {tgt : Nat} (hd : decode M.2.1 pc = .ok (.goto off, 3)) (ht : (pc : Int) + off = (tgt : Int)) (k : AW d M h tgt ls st o h2) : AW d M h pc ls st o h2 := AW.lift k rfl (fun E p e R s m args below meth c n0 H locs cells slots Q A C hR hS hL hz kk => lv_goto C.1 C.2.1 hd ht (kk A hL))
theorem AW.ifnull {x : Nat} {off : Int} (hd : decode M.2.1 pc = .ok (.ifnull off, 3)) (hp : pc + 3 = pc2) (k : AW d M h pc2 ls st o h2) : AW d M h pc ls (.ref x :: st) o h2 := by
  subst hp
  exact AW.lift k rfl (fun E p e R s m args below meth c n0 H locs cells slots Q A C hR hS hL hz kk => lv_ifnull C.1 C.2.1 hd (kk A hL))
theorem AW.ifnullN {off : Int} {tgt : Nat} (hd : decode M.2.1 pc = .ok (.ifnull off, 3)) (ht : (pc : Int) + off = (tgt : Int)) (k : AW d M h tgt ls st o h2) : AW d M h pc ls (.null :: st) o h2 := AW.lift k rfl (fun E p e R s m args below meth c n0 H locs cells slots Q A C hR hS hL hz kk => lv_ifnullN C.1 C.2.1 hd ht (kk A hL))
theorem AW.ifnonnull {x : Nat} {off : Int} {tgt : Nat} (hd : decode M.2.1 pc = .ok (.ifnonnull off, 3)) (ht : (pc : Int) + off = (tgt : Int)) (k : AW d M h tgt ls st o h2) : AW d M h pc ls (.ref x :: st) o h2 := AW.lift k rfl (fun E p e R s m args below meth c n0 H locs cells slots Q A C hR hS hL hz kk => lv_ifnonnull C.1 C.2.1 hd ht (kk A hL))
theorem AW.ifnonnullN {off : Int} (hd : decode M.2.1 pc = .ok (.ifnonnull off, 3)) (hp : pc + 3 = pc2) (k : AW d M h pc2 ls st o h2) : AW d M h pc ls (.null :: st) o h2 := by
  subst hp
  exact AW.lift k rfl (fun E p e R s m args below meth c n0 H locs cells slots Q A C hR hS hL hz kk => lv_ifnonnullN C.1 C.2.1 hd (kk A hL))
theorem AW.castN {i : Nat} (hd : decode M.2.1 pc = .ok (.checkcast i, 3)) (hp : pc + 3 = pc2) (k : AW d M h pc2 ls (.null :: st) o h2) : AW d M h pc ls (.null :: st) o h2 := by
  subst hp
  exact AW.lift k rfl (fun E p e R s m args below meth c n0 H locs cells slots Q A C hR hS hL hz kk => lv_castN C.1 C.2.1 hd (kk A hL))
theorem AW.lookup {dflt : Int} {ps : Array (Int × Int)} {len : Nat} {x : Int32} {off : Int} {tgt : Nat} (hd : decode M.2.1 pc = .ok (.lookupswitch dflt ps, len)) (hs : (ps.toList.zip (ps.toList.drop 1)).all (fun (a, next) => a.1 < next.1) = true) (ho : Op.lookupswitch.offset ps.toList dflt x.toInt = off) (ht : (pc : Int) + off = (tgt : Int)) (k : AW d M h tgt ls st o h2) : AW d M h pc ls (.int x :: st) o h2 := AW.lift k rfl (fun E p e R s m args below meth c n0 H locs cells slots Q A C hR hS hL hz kk => lv_lookup C.1 C.2.1 hd hs ho ht (kk A hL))
theorem AW.tableOut {dflt lo hi : Int} {offs : Array Int} {len : Nat} {x : Int32} {tgt : Nat} (hd : decode M.2.1 pc = .ok (.tableswitch dflt lo hi offs, len)) (hx : x.toInt < lo ∨ hi < x.toInt) (ht : (pc : Int) + dflt = (tgt : Int)) (k : AW d M h tgt ls st o h2) : AW d M h pc ls (.int x :: st) o h2 := AW.lift k rfl (fun E p e R s m args below meth c n0 H locs cells slots Q A C hR hS hL hz kk => lv_tableOut C.1 C.2.1 hd hx ht (kk A hL))
theorem AW.tableIn {dflt lo hi : Int} {offs : Array Int} {len : Nat} {x : Int32} {off : Int} {tgt : Nat} (hd : decode M.2.1 pc = .ok (.tableswitch dflt lo hi offs, len)) (h1 : ¬ x.toInt < lo) (hb : ¬ hi < x.toInt) (ho : offs[(x.toInt - lo).toNat]? = some off) (ht : (pc : Int) + off = (tgt : Int)) (k : AW d M h tgt ls st o h2) : AW d M h pc ls (.int x :: st) o h2 := AW.lift k rfl (fun E p e R s m args below meth c n0 H locs cells slots Q A C hR hS hL hz kk => lv_tableIn C.1 C.2.1 hd h1 hb ho ht (kk A hL))
end ROWS
