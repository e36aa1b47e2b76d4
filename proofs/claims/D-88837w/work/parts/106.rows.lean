theorem V_iadd {w : Wd} {mi : Mi} {cc : ByteArray} {L cb sb : Nat} {h : Hp} {pc pc' : Nat} {Q : Outcome → Hp → Prop} {ls : List (Option Value)} {st : List Value} {x y : Int32}  (d : Dc cc pc (.iadd) 1 pc') (k : V w mi cc L cb sb h pc' ls (.int (x + y) :: st) Q) : V w mi cc L cb sb h pc ls (.int y :: .int x :: st) Q := by
  obtain ⟨d, rfl⟩ := d
  exact V_pure (fun p l e R s m args below meth c H locs cells slots lsA Q' hx hb hl F kk => lv_iadd hx hb d  kk) k
theorem V_isub {w : Wd} {mi : Mi} {cc : ByteArray} {L cb sb : Nat} {h : Hp} {pc pc' : Nat} {Q : Outcome → Hp → Prop} {ls : List (Option Value)} {st : List Value} {x y : Int32}  (d : Dc cc pc (.isub) 1 pc') (k : V w mi cc L cb sb h pc' ls (.int (x - y) :: st) Q) : V w mi cc L cb sb h pc ls (.int y :: .int x :: st) Q := by
  obtain ⟨d, rfl⟩ := d
  exact V_pure (fun p l e R s m args below meth c H locs cells slots lsA Q' hx hb hl F kk => lv_isub hx hb d  kk) k
theorem V_imul {w : Wd} {mi : Mi} {cc : ByteArray} {L cb sb : Nat} {h : Hp} {pc pc' : Nat} {Q : Outcome → Hp → Prop} {ls : List (Option Value)} {st : List Value} {x y : Int32}  (d : Dc cc pc (.imul) 1 pc') (k : V w mi cc L cb sb h pc' ls (.int (x * y) :: st) Q) : V w mi cc L cb sb h pc ls (.int y :: .int x :: st) Q := by
  obtain ⟨d, rfl⟩ := d
  exact V_pure (fun p l e R s m args below meth c H locs cells slots lsA Q' hx hb hl F kk => lv_imul hx hb d  kk) k
theorem V_iand {w : Wd} {mi : Mi} {cc : ByteArray} {L cb sb : Nat} {h : Hp} {pc pc' : Nat} {Q : Outcome → Hp → Prop} {ls : List (Option Value)} {st : List Value} {x y : Int32}  (d : Dc cc pc (.iand) 1 pc') (k : V w mi cc L cb sb h pc' ls (.int (x &&& y) :: st) Q) : V w mi cc L cb sb h pc ls (.int y :: .int x :: st) Q := by
  obtain ⟨d, rfl⟩ := d
  exact V_pure (fun p l e R s m args below meth c H locs cells slots lsA Q' hx hb hl F kk => lv_iand hx hb d  kk) k
theorem V_ior {w : Wd} {mi : Mi} {cc : ByteArray} {L cb sb : Nat} {h : Hp} {pc pc' : Nat} {Q : Outcome → Hp → Prop} {ls : List (Option Value)} {st : List Value} {x y : Int32}  (d : Dc cc pc (.ior) 1 pc') (k : V w mi cc L cb sb h pc' ls (.int (x ||| y) :: st) Q) : V w mi cc L cb sb h pc ls (.int y :: .int x :: st) Q := by
  obtain ⟨d, rfl⟩ := d
  exact V_pure (fun p l e R s m args below meth c H locs cells slots lsA Q' hx hb hl F kk => lv_ior hx hb d  kk) k
theorem V_ixor {w : Wd} {mi : Mi} {cc : ByteArray} {L cb sb : Nat} {h : Hp} {pc pc' : Nat} {Q : Outcome → Hp → Prop} {ls : List (Option Value)} {st : List Value} {x y : Int32}  (d : Dc cc pc (.ixor) 1 pc') (k : V w mi cc L cb sb h pc' ls (.int (x ^^^ y) :: st) Q) : V w mi cc L cb sb h pc ls (.int y :: .int x :: st) Q := by
  obtain ⟨d, rfl⟩ := d
  exact V_pure (fun p l e R s m args below meth c H locs cells slots lsA Q' hx hb hl F kk => lv_ixor hx hb d  kk) k
theorem V_ladd {w : Wd} {mi : Mi} {cc : ByteArray} {L cb sb : Nat} {h : Hp} {pc pc' : Nat} {Q : Outcome → Hp → Prop} {ls : List (Option Value)} {st : List Value} {x y : Int64}  (d : Dc cc pc (.ladd) 1 pc') (k : V w mi cc L cb sb h pc' ls (.long (x + y) :: st) Q) : V w mi cc L cb sb h pc ls (.long y :: .long x :: st) Q := by
  obtain ⟨d, rfl⟩ := d
  exact V_pure (fun p l e R s m args below meth c H locs cells slots lsA Q' hx hb hl F kk => lv_ladd hx hb d  kk) k
theorem V_lsub {w : Wd} {mi : Mi} {cc : ByteArray} {L cb sb : Nat} {h : Hp} {pc pc' : Nat} {Q : Outcome → Hp → Prop} {ls : List (Option Value)} {st : List Value} {x y : Int64}  (d : Dc cc pc (.lsub) 1 pc') (k : V w mi cc L cb sb h pc' ls (.long (x - y) :: st) Q) : V w mi cc L cb sb h pc ls (.long y :: .long x :: st) Q := by
  obtain ⟨d, rfl⟩ := d
  exact V_pure (fun p l e R s m args below meth c H locs cells slots lsA Q' hx hb hl F kk => lv_lsub hx hb d  kk) k
theorem V_lmul {w : Wd} {mi : Mi} {cc : ByteArray} {L cb sb : Nat} {h : Hp} {pc pc' : Nat} {Q : Outcome → Hp → Prop} {ls : List (Option Value)} {st : List Value} {x y : Int64}  (d : Dc cc pc (.lmul) 1 pc') (k : V w mi cc L cb sb h pc' ls (.long (x * y) :: st) Q) : V w mi cc L cb sb h pc ls (.long y :: .long x :: st) Q := by
  obtain ⟨d, rfl⟩ := d
  exact V_pure (fun p l e R s m args below meth c H locs cells slots lsA Q' hx hb hl F kk => lv_lmul hx hb d  kk) k
theorem V_land {w : Wd} {mi : Mi} {cc : ByteArray} {L cb sb : Nat} {h : Hp} {pc pc' : Nat} {Q : Outcome → Hp → Prop} {ls : List (Option Value)} {st : List Value} {x y : Int64}  (d : Dc cc pc (.land) 1 pc') (k : V w mi cc L cb sb h pc' ls (.long (x &&& y) :: st) Q) : V w mi cc L cb sb h pc ls (.long y :: .long x :: st) Q := by
  obtain ⟨d, rfl⟩ := d
  exact V_pure (fun p l e R s m args below meth c H locs cells slots lsA Q' hx hb hl F kk => lv_land hx hb d  kk) k
theorem V_lor {w : Wd} {mi : Mi} {cc : ByteArray} {L cb sb : Nat} {h : Hp} {pc pc' : Nat} {Q : Outcome → Hp → Prop} {ls : List (Option Value)} {st : List Value} {x y : Int64}  (d : Dc cc pc (.lor) 1 pc') (k : V w mi cc L cb sb h pc' ls (.long (x ||| y) :: st) Q) : V w mi cc L cb sb h pc ls (.long y :: .long x :: st) Q := by
  obtain ⟨d, rfl⟩ := d
  exact V_pure (fun p l e R s m args below meth c H locs cells slots lsA Q' hx hb hl F kk => lv_lor hx hb d  kk) k
theorem V_lxor {w : Wd} {mi : Mi} {cc : ByteArray} {L cb sb : Nat} {h : Hp} {pc pc' : Nat} {Q : Outcome → Hp → Prop} {ls : List (Option Value)} {st : List Value} {x y : Int64}  (d : Dc cc pc (.lxor) 1 pc') (k : V w mi cc L cb sb h pc' ls (.long (x ^^^ y) :: st) Q) : V w mi cc L cb sb h pc ls (.long y :: .long x :: st) Q := by
  obtain ⟨d, rfl⟩ := d
  exact V_pure (fun p l e R s m args below meth c H locs cells slots lsA Q' hx hb hl F kk => lv_lxor hx hb d  kk) k
theorem V_idiv {w : Wd} {mi : Mi} {cc : ByteArray} {L cb sb : Nat} {h : Hp} {pc pc' : Nat} {Q : Outcome → Hp → Prop} {ls : List (Option Value)} {st : List Value} {x y : Int32} (hy : ¬ y = 0) (d : Dc cc pc (.idiv) 1 pc') (k : V w mi cc L cb sb h pc' ls (.int (x / y) :: st) Q) : V w mi cc L cb sb h pc ls (.int y :: .int x :: st) Q := by
  obtain ⟨d, rfl⟩ := d
  exact V_pure (fun p l e R s m args below meth c H locs cells slots lsA Q' hx hb hl F kk => lv_idiv hx hb d hy kk) k
theorem V_irem {w : Wd} {mi : Mi} {cc : ByteArray} {L cb sb : Nat} {h : Hp} {pc pc' : Nat} {Q : Outcome → Hp → Prop} {ls : List (Option Value)} {st : List Value} {x y : Int32} (hy : ¬ y = 0) (d : Dc cc pc (.irem) 1 pc') (k : V w mi cc L cb sb h pc' ls (.int (x - x / y * y) :: st) Q) : V w mi cc L cb sb h pc ls (.int y :: .int x :: st) Q := by
  obtain ⟨d, rfl⟩ := d
  exact V_pure (fun p l e R s m args below meth c H locs cells slots lsA Q' hx hb hl F kk => lv_irem hx hb d hy kk) k
theorem V_ldiv {w : Wd} {mi : Mi} {cc : ByteArray} {L cb sb : Nat} {h : Hp} {pc pc' : Nat} {Q : Outcome → Hp → Prop} {ls : List (Option Value)} {st : List Value} {x y : Int64} (hy : ¬ y = 0) (d : Dc cc pc (.ldiv) 1 pc') (k : V w mi cc L cb sb h pc' ls (.long (x / y) :: st) Q) : V w mi cc L cb sb h pc ls (.long y :: .long x :: st) Q := by
  obtain ⟨d, rfl⟩ := d
  exact V_pure (fun p l e R s m args below meth c H locs cells slots lsA Q' hx hb hl F kk => lv_ldiv hx hb d hy kk) k
theorem V_ineg {w : Wd} {mi : Mi} {cc : ByteArray} {L cb sb : Nat} {h : Hp} {pc pc' : Nat} {Q : Outcome → Hp → Prop} {ls : List (Option Value)} {st : List Value} {x : Int32}  (d : Dc cc pc (.ineg) 1 pc') (k : V w mi cc L cb sb h pc' ls (.int (-x) :: st) Q) : V w mi cc L cb sb h pc ls (.int x :: st) Q := by
  obtain ⟨d, rfl⟩ := d
  exact V_pure (fun p l e R s m args below meth c H locs cells slots lsA Q' hx hb hl F kk => lv_ineg hx hb d  kk) k
theorem V_ishl {w : Wd} {mi : Mi} {cc : ByteArray} {L cb sb : Nat} {h : Hp} {pc pc' : Nat} {Q : Outcome → Hp → Prop} {ls : List (Option Value)} {st : List Value} {x y : Int32}  (d : Dc cc pc (.ishl) 1 pc') (k : V w mi cc L cb sb h pc' ls (.int (x <<< (y &&& 31)) :: st) Q) : V w mi cc L cb sb h pc ls (.int y :: .int x :: st) Q := by
  obtain ⟨d, rfl⟩ := d
  exact V_pure (fun p l e R s m args below meth c H locs cells slots lsA Q' hx hb hl F kk => lv_ishl hx hb d  kk) k
theorem V_ishr {w : Wd} {mi : Mi} {cc : ByteArray} {L cb sb : Nat} {h : Hp} {pc pc' : Nat} {Q : Outcome → Hp → Prop} {ls : List (Option Value)} {st : List Value} {x y : Int32}  (d : Dc cc pc (.ishr) 1 pc') (k : V w mi cc L cb sb h pc' ls (.int (x >>> (y &&& 31)) :: st) Q) : V w mi cc L cb sb h pc ls (.int y :: .int x :: st) Q := by
  obtain ⟨d, rfl⟩ := d
  exact V_pure (fun p l e R s m args below meth c H locs cells slots lsA Q' hx hb hl F kk => lv_ishr hx hb d  kk) k
theorem V_iushr {w : Wd} {mi : Mi} {cc : ByteArray} {L cb sb : Nat} {h : Hp} {pc pc' : Nat} {Q : Outcome → Hp → Prop} {ls : List (Option Value)} {st : List Value} {x y : Int32}  (d : Dc cc pc (.iushr) 1 pc') (k : V w mi cc L cb sb h pc' ls (.int ((x.toUInt32 >>> (y.toUInt32 &&& Int32.toUInt32 31)).toInt32) :: st) Q) : V w mi cc L cb sb h pc ls (.int y :: .int x :: st) Q := by
  obtain ⟨d, rfl⟩ := d
  exact V_pure (fun p l e R s m args below meth c H locs cells slots lsA Q' hx hb hl F kk => lv_iushr hx hb d rfl kk) k
theorem V_lshl {w : Wd} {mi : Mi} {cc : ByteArray} {L cb sb : Nat} {h : Hp} {pc pc' : Nat} {Q : Outcome → Hp → Prop} {ls : List (Option Value)} {st : List Value} {x : Int64} {y : Int32}  (d : Dc cc pc (.lshl) 1 pc') (k : V w mi cc L cb sb h pc' ls (.long (x <<< (y.toInt64 &&& 63)) :: st) Q) : V w mi cc L cb sb h pc ls (.int y :: .long x :: st) Q := by
  obtain ⟨d, rfl⟩ := d
  exact V_pure (fun p l e R s m args below meth c H locs cells slots lsA Q' hx hb hl F kk => lv_lshl hx hb d rfl kk) k
theorem V_lshr {w : Wd} {mi : Mi} {cc : ByteArray} {L cb sb : Nat} {h : Hp} {pc pc' : Nat} {Q : Outcome → Hp → Prop} {ls : List (Option Value)} {st : List Value} {x : Int64} {y : Int32}  (d : Dc cc pc (.lshr) 1 pc') (k : V w mi cc L cb sb h pc' ls (.long (x >>> (y.toInt64 &&& 63)) :: st) Q) : V w mi cc L cb sb h pc ls (.int y :: .long x :: st) Q := by
  obtain ⟨d, rfl⟩ := d
  exact V_pure (fun p l e R s m args below meth c H locs cells slots lsA Q' hx hb hl F kk => lv_lshr hx hb d rfl kk) k
theorem V_i2l {w : Wd} {mi : Mi} {cc : ByteArray} {L cb sb : Nat} {h : Hp} {pc pc' : Nat} {Q : Outcome → Hp → Prop} {ls : List (Option Value)} {st : List Value} {x : Int32}  (d : Dc cc pc (.i2l) 1 pc') (k : V w mi cc L cb sb h pc' ls (.long x.toInt64 :: st) Q) : V w mi cc L cb sb h pc ls (.int x :: st) Q := by
  obtain ⟨d, rfl⟩ := d
  exact V_pure (fun p l e R s m args below meth c H locs cells slots lsA Q' hx hb hl F kk => lv_i2l hx hb d rfl kk) k
theorem V_l2i {w : Wd} {mi : Mi} {cc : ByteArray} {L cb sb : Nat} {h : Hp} {pc pc' : Nat} {Q : Outcome → Hp → Prop} {ls : List (Option Value)} {st : List Value} {x : Int64}  (d : Dc cc pc (.l2i) 1 pc') (k : V w mi cc L cb sb h pc' ls (.int x.toInt32 :: st) Q) : V w mi cc L cb sb h pc ls (.long x :: st) Q := by
  obtain ⟨d, rfl⟩ := d
  exact V_pure (fun p l e R s m args below meth c H locs cells slots lsA Q' hx hb hl F kk => lv_l2i hx hb d rfl kk) k
theorem V_i2b {w : Wd} {mi : Mi} {cc : ByteArray} {L cb sb : Nat} {h : Hp} {pc pc' : Nat} {Q : Outcome → Hp → Prop} {ls : List (Option Value)} {st : List Value} {x : Int32}  (d : Dc cc pc (.i2b) 1 pc') (k : V w mi cc L cb sb h pc' ls (.int x.toInt8.toInt32 :: st) Q) : V w mi cc L cb sb h pc ls (.int x :: st) Q := by
  obtain ⟨d, rfl⟩ := d
  exact V_pure (fun p l e R s m args below meth c H locs cells slots lsA Q' hx hb hl F kk => lv_i2b hx hb d rfl kk) k
theorem V_i2s {w : Wd} {mi : Mi} {cc : ByteArray} {L cb sb : Nat} {h : Hp} {pc pc' : Nat} {Q : Outcome → Hp → Prop} {ls : List (Option Value)} {st : List Value} {x : Int32}  (d : Dc cc pc (.i2s) 1 pc') (k : V w mi cc L cb sb h pc' ls (.int x.toInt16.toInt32 :: st) Q) : V w mi cc L cb sb h pc ls (.int x :: st) Q := by
  obtain ⟨d, rfl⟩ := d
  exact V_pure (fun p l e R s m args below meth c H locs cells slots lsA Q' hx hb hl F kk => lv_i2s hx hb d rfl kk) k
theorem V_i2c {w : Wd} {mi : Mi} {cc : ByteArray} {L cb sb : Nat} {h : Hp} {pc pc' : Nat} {Q : Outcome → Hp → Prop} {ls : List (Option Value)} {st : List Value} {x : Int32}  (d : Dc cc pc (.i2c) 1 pc') (k : V w mi cc L cb sb h pc' ls (.int (x.toUInt32 % 65536).toInt32 :: st) Q) : V w mi cc L cb sb h pc ls (.int x :: st) Q := by
  obtain ⟨d, rfl⟩ := d
  exact V_pure (fun p l e R s m args below meth c H locs cells slots lsA Q' hx hb hl F kk => lv_i2c hx hb d rfl kk) k
theorem V_iconst {w : Wd} {mi : Mi} {cc : ByteArray} {L cb sb : Nat} {h : Hp} {pc pc' : Nat} {Q : Outcome → Hp → Prop} {ls : List (Option Value)} {st : List Value} {n : Int} {v : Int32} (hv : Int32.ofInt n = v) (d : Dc cc pc (.iconst n) 1 pc') (k : V w mi cc L cb sb h pc' ls (.int v :: st) Q) : V w mi cc L cb sb h pc ls st Q := by
  obtain ⟨d, rfl⟩ := d
  exact V_pure (fun p l e R s m args below meth c H locs cells slots lsA Q' hx hb hl F kk => lv_iconst hx hb d hv kk) k
theorem V_bipush {w : Wd} {mi : Mi} {cc : ByteArray} {L cb sb : Nat} {h : Hp} {pc pc' : Nat} {Q : Outcome → Hp → Prop} {ls : List (Option Value)} {st : List Value} {n : Int} {v : Int32} (hv : (Int8.ofInt n).toInt32 = v) (d : Dc cc pc (.bipush n) 2 pc') (k : V w mi cc L cb sb h pc' ls (.int v :: st) Q) : V w mi cc L cb sb h pc ls st Q := by
  obtain ⟨d, rfl⟩ := d
  exact V_pure (fun p l e R s m args below meth c H locs cells slots lsA Q' hx hb hl F kk => lv_bipush hx hb d hv kk) k
theorem V_sipush {w : Wd} {mi : Mi} {cc : ByteArray} {L cb sb : Nat} {h : Hp} {pc pc' : Nat} {Q : Outcome → Hp → Prop} {ls : List (Option Value)} {st : List Value} {n : Int} {v : Int32} (hv : (Int16.ofInt n).toInt32 = v) (d : Dc cc pc (.sipush n) 3 pc') (k : V w mi cc L cb sb h pc' ls (.int v :: st) Q) : V w mi cc L cb sb h pc ls st Q := by
  obtain ⟨d, rfl⟩ := d
  exact V_pure (fun p l e R s m args below meth c H locs cells slots lsA Q' hx hb hl F kk => lv_sipush hx hb d hv kk) k
theorem V_lconst {w : Wd} {mi : Mi} {cc : ByteArray} {L cb sb : Nat} {h : Hp} {pc pc' : Nat} {Q : Outcome → Hp → Prop} {ls : List (Option Value)} {st : List Value} {n : Fin 2} {v : Int64} (hv : Int64.ofNat (n : Nat) = v) (d : Dc cc pc (.lconst n) 1 pc') (k : V w mi cc L cb sb h pc' ls (.long v :: st) Q) : V w mi cc L cb sb h pc ls st Q := by
  obtain ⟨d, rfl⟩ := d
  exact V_pure (fun p l e R s m args below meth c H locs cells slots lsA Q' hx hb hl F kk => lv_lconst hx hb d hv kk) k
theorem V_aconst_null {w : Wd} {mi : Mi} {cc : ByteArray} {L cb sb : Nat} {h : Hp} {pc pc' : Nat} {Q : Outcome → Hp → Prop} {ls : List (Option Value)} {st : List Value}   (d : Dc cc pc (.aconst_null) 1 pc') (k : V w mi cc L cb sb h pc' ls (.null :: st) Q) : V w mi cc L cb sb h pc ls st Q := by
  obtain ⟨d, rfl⟩ := d
  exact V_pure (fun p l e R s m args below meth c H locs cells slots lsA Q' hx hb hl F kk => lv_null hx hb d  kk) k
theorem V_dup {w : Wd} {mi : Mi} {cc : ByteArray} {L cb sb : Nat} {h : Hp} {pc pc' : Nat} {Q : Outcome → Hp → Prop} {ls : List (Option Value)} {st : List Value} {a : Value} (ha : a.category = 1) (d : Dc cc pc (.dup) 1 pc') (k : V w mi cc L cb sb h pc' ls (a :: a :: st) Q) : V w mi cc L cb sb h pc ls (a :: st) Q := by
  obtain ⟨d, rfl⟩ := d
  exact V_pure (fun p l e R s m args below meth c H locs cells slots lsA Q' hx hb hl F kk => lv_dup hx hb d ha kk) k
theorem V_pop {w : Wd} {mi : Mi} {cc : ByteArray} {L cb sb : Nat} {h : Hp} {pc pc' : Nat} {Q : Outcome → Hp → Prop} {ls : List (Option Value)} {st : List Value} {a : Value} (ha : a.category = 1) (d : Dc cc pc (.pop) 1 pc') (k : V w mi cc L cb sb h pc' ls st Q) : V w mi cc L cb sb h pc ls (a :: st) Q := by
  obtain ⟨d, rfl⟩ := d
  exact V_pure (fun p l e R s m args below meth c H locs cells slots lsA Q' hx hb hl F kk => lv_pop hx hb d ha kk) k
theorem V_dup_x1 {w : Wd} {mi : Mi} {cc : ByteArray} {L cb sb : Nat} {h : Hp} {pc pc' : Nat} {Q : Outcome → Hp → Prop} {ls : List (Option Value)} {st : List Value} {a b : Value} (ha : a.category = 1) (hb1 : b.category = 1) (d : Dc cc pc (.dup_x1) 1 pc') (k : V w mi cc L cb sb h pc' ls (a :: b :: a :: st) Q) : V w mi cc L cb sb h pc ls (a :: b :: st) Q := by
  obtain ⟨d, rfl⟩ := d
  exact V_pure (fun p l e R s m args below meth c H locs cells slots lsA Q' hx hb hl F kk => lv_dup_x1 hx hb d ha hb1 kk) k
theorem V_dup2 {w : Wd} {mi : Mi} {cc : ByteArray} {L cb sb : Nat} {h : Hp} {pc pc' : Nat} {Q : Outcome → Hp → Prop} {ls : List (Option Value)} {st : List Value} {a b : Value} (ha : a.category = 1) (hb1 : b.category = 1) (d : Dc cc pc (.dup2) 1 pc') (k : V w mi cc L cb sb h pc' ls (a :: b :: a :: b :: st) Q) : V w mi cc L cb sb h pc ls (a :: b :: st) Q := by
  obtain ⟨d, rfl⟩ := d
  exact V_pure (fun p l e R s m args below meth c H locs cells slots lsA Q' hx hb hl F kk => lv_dup2_11 hx hb d ha hb1 kk) k
theorem V_ifeq {w : Wd} {mi : Mi} {cc : ByteArray} {L cb sb : Nat} {h : Hp} {pc pc' : Nat} {Q : Outcome → Hp → Prop} {tgt : Nat} {ls : List (Option Value)} {st : List Value} {x : Int32} (d : Db cc pc (fun o => .ifCond .eq o) tgt pc') (kt : (x = 0) → V w mi cc L cb sb h tgt ls st Q) (kf : ¬ (x = 0) → V w mi cc L cb sb h pc' ls st Q) : V w mi cc L cb sb h pc ls (.int x :: st) Q := by
  obtain ⟨off, d, ht, rfl⟩ := d
  intro p l e R s m args below meth c H locs cells slots lsA F a1 a2 a3 a4 a5 a6 hl
  exact lv_if_eq F.1 F.2.1 d ht (fun q => kt q p l e R s m args below meth c H locs cells slots lsA F a1 a2 a3 a4 a5 a6 hl) (fun q => kf q p l e R s m args below meth c H locs cells slots lsA F a1 a2 a3 a4 a5 a6 hl)
theorem V_if_icmpeq {w : Wd} {mi : Mi} {cc : ByteArray} {L cb sb : Nat} {h : Hp} {pc pc' : Nat} {Q : Outcome → Hp → Prop} {tgt : Nat} {ls : List (Option Value)} {st : List Value} {x y : Int32} (d : Db cc pc (fun o => .if_icmp .eq o) tgt pc') (kt : (x = y) → V w mi cc L cb sb h tgt ls st Q) (kf : ¬ (x = y) → V w mi cc L cb sb h pc' ls st Q) : V w mi cc L cb sb h pc ls (.int y :: .int x :: st) Q := by
  obtain ⟨off, d, ht, rfl⟩ := d
  intro p l e R s m args below meth c H locs cells slots lsA F a1 a2 a3 a4 a5 a6 hl
  exact lv_icmp_eq F.1 F.2.1 d ht (fun q => kt q p l e R s m args below meth c H locs cells slots lsA F a1 a2 a3 a4 a5 a6 hl) (fun q => kf q p l e R s m args below meth c H locs cells slots lsA F a1 a2 a3 a4 a5 a6 hl)
theorem V_ifne {w : Wd} {mi : Mi} {cc : ByteArray} {L cb sb : Nat} {h : Hp} {pc pc' : Nat} {Q : Outcome → Hp → Prop} {tgt : Nat} {ls : List (Option Value)} {st : List Value} {x : Int32} (d : Db cc pc (fun o => .ifCond .ne o) tgt pc') (kt : (¬ x = 0) → V w mi cc L cb sb h tgt ls st Q) (kf : x = 0 → V w mi cc L cb sb h pc' ls st Q) : V w mi cc L cb sb h pc ls (.int x :: st) Q := by
  obtain ⟨off, d, ht, rfl⟩ := d
  intro p l e R s m args below meth c H locs cells slots lsA F a1 a2 a3 a4 a5 a6 hl
  exact lv_if_ne F.1 F.2.1 d ht (fun q => kt q p l e R s m args below meth c H locs cells slots lsA F a1 a2 a3 a4 a5 a6 hl) (fun q => kf q p l e R s m args below meth c H locs cells slots lsA F a1 a2 a3 a4 a5 a6 hl)
theorem V_if_icmpne {w : Wd} {mi : Mi} {cc : ByteArray} {L cb sb : Nat} {h : Hp} {pc pc' : Nat} {Q : Outcome → Hp → Prop} {tgt : Nat} {ls : List (Option Value)} {st : List Value} {x y : Int32} (d : Db cc pc (fun o => .if_icmp .ne o) tgt pc') (kt : (¬ x = y) → V w mi cc L cb sb h tgt ls st Q) (kf : x = y → V w mi cc L cb sb h pc' ls st Q) : V w mi cc L cb sb h pc ls (.int y :: .int x :: st) Q := by
  obtain ⟨off, d, ht, rfl⟩ := d
  intro p l e R s m args below meth c H locs cells slots lsA F a1 a2 a3 a4 a5 a6 hl
  exact lv_icmp_ne F.1 F.2.1 d ht (fun q => kt q p l e R s m args below meth c H locs cells slots lsA F a1 a2 a3 a4 a5 a6 hl) (fun q => kf q p l e R s m args below meth c H locs cells slots lsA F a1 a2 a3 a4 a5 a6 hl)
theorem V_iflt {w : Wd} {mi : Mi} {cc : ByteArray} {L cb sb : Nat} {h : Hp} {pc pc' : Nat} {Q : Outcome → Hp → Prop} {tgt : Nat} {ls : List (Option Value)} {st : List Value} {x : Int32} (d : Db cc pc (fun o => .ifCond .lt o) tgt pc') (kt : (x < 0) → V w mi cc L cb sb h tgt ls st Q) (kf : ¬ (x < 0) → V w mi cc L cb sb h pc' ls st Q) : V w mi cc L cb sb h pc ls (.int x :: st) Q := by
  obtain ⟨off, d, ht, rfl⟩ := d
  intro p l e R s m args below meth c H locs cells slots lsA F a1 a2 a3 a4 a5 a6 hl
  exact lv_if_lt F.1 F.2.1 d ht (fun q => kt q p l e R s m args below meth c H locs cells slots lsA F a1 a2 a3 a4 a5 a6 hl) (fun q => kf q p l e R s m args below meth c H locs cells slots lsA F a1 a2 a3 a4 a5 a6 hl)
theorem V_if_icmplt {w : Wd} {mi : Mi} {cc : ByteArray} {L cb sb : Nat} {h : Hp} {pc pc' : Nat} {Q : Outcome → Hp → Prop} {tgt : Nat} {ls : List (Option Value)} {st : List Value} {x y : Int32} (d : Db cc pc (fun o => .if_icmp .lt o) tgt pc') (kt : (x < y) → V w mi cc L cb sb h tgt ls st Q) (kf : ¬ (x < y) → V w mi cc L cb sb h pc' ls st Q) : V w mi cc L cb sb h pc ls (.int y :: .int x :: st) Q := by
  obtain ⟨off, d, ht, rfl⟩ := d
  intro p l e R s m args below meth c H locs cells slots lsA F a1 a2 a3 a4 a5 a6 hl
  exact lv_icmp_lt F.1 F.2.1 d ht (fun q => kt q p l e R s m args below meth c H locs cells slots lsA F a1 a2 a3 a4 a5 a6 hl) (fun q => kf q p l e R s m args below meth c H locs cells slots lsA F a1 a2 a3 a4 a5 a6 hl)
theorem V_ifge {w : Wd} {mi : Mi} {cc : ByteArray} {L cb sb : Nat} {h : Hp} {pc pc' : Nat} {Q : Outcome → Hp → Prop} {tgt : Nat} {ls : List (Option Value)} {st : List Value} {x : Int32} (d : Db cc pc (fun o => .ifCond .ge o) tgt pc') (kt : (0 ≤ x) → V w mi cc L cb sb h tgt ls st Q) (kf : ¬ (0 ≤ x) → V w mi cc L cb sb h pc' ls st Q) : V w mi cc L cb sb h pc ls (.int x :: st) Q := by
  obtain ⟨off, d, ht, rfl⟩ := d
  intro p l e R s m args below meth c H locs cells slots lsA F a1 a2 a3 a4 a5 a6 hl
  exact lv_if_ge F.1 F.2.1 d ht (fun q => kt q p l e R s m args below meth c H locs cells slots lsA F a1 a2 a3 a4 a5 a6 hl) (fun q => kf q p l e R s m args below meth c H locs cells slots lsA F a1 a2 a3 a4 a5 a6 hl)
theorem V_if_icmpge {w : Wd} {mi : Mi} {cc : ByteArray} {L cb sb : Nat} {h : Hp} {pc pc' : Nat} {Q : Outcome → Hp → Prop} {tgt : Nat} {ls : List (Option Value)} {st : List Value} {x y : Int32} (d : Db cc pc (fun o => .if_icmp .ge o) tgt pc') (kt : (y ≤ x) → V w mi cc L cb sb h tgt ls st Q) (kf : ¬ (y ≤ x) → V w mi cc L cb sb h pc' ls st Q) : V w mi cc L cb sb h pc ls (.int y :: .int x :: st) Q := by
  obtain ⟨off, d, ht, rfl⟩ := d
  intro p l e R s m args below meth c H locs cells slots lsA F a1 a2 a3 a4 a5 a6 hl
  exact lv_icmp_ge F.1 F.2.1 d ht (fun q => kt q p l e R s m args below meth c H locs cells slots lsA F a1 a2 a3 a4 a5 a6 hl) (fun q => kf q p l e R s m args below meth c H locs cells slots lsA F a1 a2 a3 a4 a5 a6 hl)
theorem V_ifgt {w : Wd} {mi : Mi} {cc : ByteArray} {L cb sb : Nat} {h : Hp} {pc pc' : Nat} {Q : Outcome → Hp → Prop} {tgt : Nat} {ls : List (Option Value)} {st : List Value} {x : Int32} (d : Db cc pc (fun o => .ifCond .gt o) tgt pc') (kt : (0 < x) → V w mi cc L cb sb h tgt ls st Q) (kf : ¬ (0 < x) → V w mi cc L cb sb h pc' ls st Q) : V w mi cc L cb sb h pc ls (.int x :: st) Q := by
  obtain ⟨off, d, ht, rfl⟩ := d
  intro p l e R s m args below meth c H locs cells slots lsA F a1 a2 a3 a4 a5 a6 hl
  exact lv_if_gt F.1 F.2.1 d ht (fun q => kt q p l e R s m args below meth c H locs cells slots lsA F a1 a2 a3 a4 a5 a6 hl) (fun q => kf q p l e R s m args below meth c H locs cells slots lsA F a1 a2 a3 a4 a5 a6 hl)
theorem V_if_icmpgt {w : Wd} {mi : Mi} {cc : ByteArray} {L cb sb : Nat} {h : Hp} {pc pc' : Nat} {Q : Outcome → Hp → Prop} {tgt : Nat} {ls : List (Option Value)} {st : List Value} {x y : Int32} (d : Db cc pc (fun o => .if_icmp .gt o) tgt pc') (kt : (y < x) → V w mi cc L cb sb h tgt ls st Q) (kf : ¬ (y < x) → V w mi cc L cb sb h pc' ls st Q) : V w mi cc L cb sb h pc ls (.int y :: .int x :: st) Q := by
  obtain ⟨off, d, ht, rfl⟩ := d
  intro p l e R s m args below meth c H locs cells slots lsA F a1 a2 a3 a4 a5 a6 hl
  exact lv_icmp_gt F.1 F.2.1 d ht (fun q => kt q p l e R s m args below meth c H locs cells slots lsA F a1 a2 a3 a4 a5 a6 hl) (fun q => kf q p l e R s m args below meth c H locs cells slots lsA F a1 a2 a3 a4 a5 a6 hl)
theorem V_ifle {w : Wd} {mi : Mi} {cc : ByteArray} {L cb sb : Nat} {h : Hp} {pc pc' : Nat} {Q : Outcome → Hp → Prop} {tgt : Nat} {ls : List (Option Value)} {st : List Value} {x : Int32} (d : Db cc pc (fun o => .ifCond .le o) tgt pc') (kt : (x ≤ 0) → V w mi cc L cb sb h tgt ls st Q) (kf : ¬ (x ≤ 0) → V w mi cc L cb sb h pc' ls st Q) : V w mi cc L cb sb h pc ls (.int x :: st) Q := by
  obtain ⟨off, d, ht, rfl⟩ := d
  intro p l e R s m args below meth c H locs cells slots lsA F a1 a2 a3 a4 a5 a6 hl
  exact lv_if_le F.1 F.2.1 d ht (fun q => kt q p l e R s m args below meth c H locs cells slots lsA F a1 a2 a3 a4 a5 a6 hl) (fun q => kf q p l e R s m args below meth c H locs cells slots lsA F a1 a2 a3 a4 a5 a6 hl)
theorem V_if_icmple {w : Wd} {mi : Mi} {cc : ByteArray} {L cb sb : Nat} {h : Hp} {pc pc' : Nat} {Q : Outcome → Hp → Prop} {tgt : Nat} {ls : List (Option Value)} {st : List Value} {x y : Int32} (d : Db cc pc (fun o => .if_icmp .le o) tgt pc') (kt : (x ≤ y) → V w mi cc L cb sb h tgt ls st Q) (kf : ¬ (x ≤ y) → V w mi cc L cb sb h pc' ls st Q) : V w mi cc L cb sb h pc ls (.int y :: .int x :: st) Q := by
  obtain ⟨off, d, ht, rfl⟩ := d
  intro p l e R s m args below meth c H locs cells slots lsA F a1 a2 a3 a4 a5 a6 hl
  exact lv_icmp_le F.1 F.2.1 d ht (fun q => kt q p l e R s m args below meth c H locs cells slots lsA F a1 a2 a3 a4 a5 a6 hl) (fun q => kf q p l e R s m args below meth c H locs cells slots lsA F a1 a2 a3 a4 a5 a6 hl)
theorem V_goto {w : Wd} {mi : Mi} {cc : ByteArray} {L cb sb : Nat} {h : Hp} {pc pc' : Nat} {Q : Outcome → Hp → Prop} {tgt : Nat} {ls : List (Option Value)} {st : List Value} (d : Db cc pc (fun o => .goto o) tgt pc') (k : V w mi cc L cb sb h tgt ls st Q) : V w mi cc L cb sb h pc ls st Q := by
  obtain ⟨off, d, ht, rfl⟩ := d
  exact V_pure (fun p l e R s m args below meth c H locs cells slots lsA Q' hx hb hl F kk => lv_goto hx hb d ht kk) k
theorem V_if_acmpeq {w : Wd} {mi : Mi} {cc : ByteArray} {L cb sb : Nat} {h : Hp} {pc pc' : Nat} {Q : Outcome → Hp → Prop} {tgt : Nat} {ls : List (Option Value)} {st : List Value} {rx ry : Option Nat} (d : Db cc pc (fun o => .if_acmp .eq o) tgt pc') (kt : (rx = ry) → V w mi cc L cb sb h tgt ls st Q) (kf : (¬ rx = ry) → V w mi cc L cb sb h pc' ls st Q) : V w mi cc L cb sb h pc ls (va_rf ry :: va_rf rx :: st) Q := by
  obtain ⟨off, d, ht, rfl⟩ := d
  intro p l e R s m args below meth c H locs cells slots lsA F a1 a2 a3 a4 a5 a6 hl
  exact lv_acmp_eq F.1 F.2.1 d ht (fun q => kt q p l e R s m args below meth c H locs cells slots lsA F a1 a2 a3 a4 a5 a6 hl) (fun q => kf q p l e R s m args below meth c H locs cells slots lsA F a1 a2 a3 a4 a5 a6 hl)
theorem V_if_acmpne {w : Wd} {mi : Mi} {cc : ByteArray} {L cb sb : Nat} {h : Hp} {pc pc' : Nat} {Q : Outcome → Hp → Prop} {tgt : Nat} {ls : List (Option Value)} {st : List Value} {rx ry : Option Nat} (d : Db cc pc (fun o => .if_acmp .ne o) tgt pc') (kt : (¬ rx = ry) → V w mi cc L cb sb h tgt ls st Q) (kf : (rx = ry) → V w mi cc L cb sb h pc' ls st Q) : V w mi cc L cb sb h pc ls (va_rf ry :: va_rf rx :: st) Q := by
  obtain ⟨off, d, ht, rfl⟩ := d
  intro p l e R s m args below meth c H locs cells slots lsA F a1 a2 a3 a4 a5 a6 hl
  exact lv_acmp_ne F.1 F.2.1 d ht (fun q => kt q p l e R s m args below meth c H locs cells slots lsA F a1 a2 a3 a4 a5 a6 hl) (fun q => kf q p l e R s m args below meth c H locs cells slots lsA F a1 a2 a3 a4 a5 a6 hl)
theorem V_ifnull {w : Wd} {mi : Mi} {cc : ByteArray} {L cb sb : Nat} {h : Hp} {pc pc' : Nat} {Q : Outcome → Hp → Prop} {tgt : Nat} {ls : List (Option Value)} {st : List Value} {r : Option Nat} (d : Db cc pc (fun o => .ifnull o) tgt pc') (kt : r = none → V w mi cc L cb sb h tgt ls st Q) (kf : ∀ a, r = some a → V w mi cc L cb sb h pc' ls st Q) : V w mi cc L cb sb h pc ls (va_rf r :: st) Q := by
  obtain ⟨off, d, ht, rfl⟩ := d
  intro p l e R s m args below meth c H locs cells slots lsA F a1 a2 a3 a4 a5 a6 hl
  cases r with
  | none => exact lv_ifnullN F.1 F.2.1 d ht (kt rfl p l e R s m args below meth c H locs cells slots lsA F a1 a2 a3 a4 a5 a6 hl)
  | some a => exact lv_ifnull F.1 F.2.1 d (kf a rfl p l e R s m args below meth c H locs cells slots lsA F a1 a2 a3 a4 a5 a6 hl)
theorem V_ifnonnull {w : Wd} {mi : Mi} {cc : ByteArray} {L cb sb : Nat} {h : Hp} {pc pc' : Nat} {Q : Outcome → Hp → Prop} {tgt : Nat} {ls : List (Option Value)} {st : List Value} {r : Option Nat} (d : Db cc pc (fun o => .ifnonnull o) tgt pc') (kt : ∀ a, r = some a → V w mi cc L cb sb h tgt ls st Q) (kf : r = none → V w mi cc L cb sb h pc' ls st Q) : V w mi cc L cb sb h pc ls (va_rf r :: st) Q := by
  obtain ⟨off, d, ht, rfl⟩ := d
  intro p l e R s m args below meth c H locs cells slots lsA F a1 a2 a3 a4 a5 a6 hl
  cases r with
  | none => exact lv_ifnonnullN F.1 F.2.1 d (kf rfl p l e R s m args below meth c H locs cells slots lsA F a1 a2 a3 a4 a5 a6 hl)
  | some a => exact lv_ifnonnull F.1 F.2.1 d ht (kt a rfl p l e R s m args below meth c H locs cells slots lsA F a1 a2 a3 a4 a5 a6 hl)
def znl : Option Value → Bool
  | some (.long _) => false
  | some (.double _) => false
  | _ => true
theorem znl_cat {v : Value} (h : znl (some v) = true) : v.category = 1 := by cases v <;> first | rfl | simp [znl] at h
def zrf : Value → Bool
  | .ref _ => true
  | .null => true
  | _ => false
theorem zrf_rf (r : Option Nat) : zrf (va_rf r) = true := by cases r <;> rfl
theorem zls.set1 {lsA ls' : Array Slot} {n i : Nat} {ls lz : List (Option Value)} {v : Value} (hs : lv_has ls' n ((i, v) :: (zP 0 ls).filter (fun q => !(q.1 == i) && !(q.1 + 1 == i && q.2.category == 2)))) (h1 : ∀ j u, lz[j]? = some (some u) → (j = i ∧ u = v) ∨ (j ≠ i ∧ ls[j]? = some (some u) ∧ (j + 1 = i → znl (some u) = true))) : zls ls' n lz := by
  refine zls.sub hs fun j u hj => ?_
  rcases h1 j u hj with ⟨rfl, rfl⟩ | ⟨h2, h3, h4⟩
  · exact List.mem_cons_self
  · refine List.mem_cons_of_mem _ (List.mem_filter.mpr ⟨zP_mem.mpr ⟨j, by omega, h3⟩, ?_⟩)
    have e1 : (j == i) = false := by simpa using h2
    by_cases h5 : j + 1 = i
    · have := znl_cat (h4 h5)
      simp [e1, this]
    · have e2 : (j + 1 == i) = false := by simpa using h5
      simp [e1, e2]
theorem V_iload0 {w : Wd} {mi : Mi} {cc : ByteArray} {L cb sb : Nat} {h : Hp} {pc pc' : Nat} {Q : Outcome → Hp → Prop} {t : List (Option Value)} {st : List Value} {x : Int32} (d : Dc cc pc (.iload_n 0) 1 pc') (k : V w mi cc L cb sb h pc' (some (.int x) :: t) (.int x :: st) Q) : V w mi cc L cb sb h pc (some (.int x) :: t) st Q := by
  obtain ⟨d, rfl⟩ := d
  exact V_pure (fun p l e R s m args below meth c H locs cells slots lsA Q' hx hb hl F kk => lv_iload_n hx hb d rfl (hl.at (i := 0) rfl) kk) k
theorem V_lload0 {w : Wd} {mi : Mi} {cc : ByteArray} {L cb sb : Nat} {h : Hp} {pc pc' : Nat} {Q : Outcome → Hp → Prop} {t : List (Option Value)} {st : List Value} {x : Int64} (d : Dc cc pc (.lload_n 0) 1 pc') (k : V w mi cc L cb sb h pc' (some (.long x) :: t) (.long x :: st) Q) : V w mi cc L cb sb h pc (some (.long x) :: t) st Q := by
  obtain ⟨d, rfl⟩ := d
  exact V_pure (fun p l e R s m args below meth c H locs cells slots lsA Q' hx hb hl F kk => lv_lload_n hx hb d rfl (hl.at (i := 0) rfl) kk) k
theorem V_aload0 {w : Wd} {mi : Mi} {cc : ByteArray} {L cb sb : Nat} {h : Hp} {pc pc' : Nat} {Q : Outcome → Hp → Prop} {t : List (Option Value)} {st : List Value} {x : Value} (d : Dc cc pc (.aload_n 0) 1 pc') (hx : zrf x = true) (k : V w mi cc L cb sb h pc' (some x :: t) (x :: st) Q) : V w mi cc L cb sb h pc (some x :: t) st Q := by
  obtain ⟨d, rfl⟩ := d
  cases x with
  | ref a => exact V_pure (fun p l e R s m args below meth c H locs cells slots lsA Q' hx hb hl F kk => lv_aload_n hx hb d rfl (hl.at (i := 0) rfl) kk) k
  | null => exact V_pure (fun p l e R s m args below meth c H locs cells slots lsA Q' hx hb hl F kk => lv_aload_nN hx hb d rfl (hl.at (i := 0) rfl) kk) k
  | _ => exact absurd hx (by simp [zrf])
theorem zstore (i : Nat) (ls : List (Option Value)) (j : Nat) (u v : Value) {lz : List (Option Value)} (hz : lz = ls.set i (some v) := by rfl) (hj : lz[j]? = some (some u)) (hp : ∀ k, i = k + 1 → ∀ y, ls[k]? = some (some y) → znl (some y) = true) : (j = i ∧ u = v) ∨ (j ≠ i ∧ ls[j]? = some (some u) ∧ (j + 1 = i → znl (some u) = true)) := by
  subst hz
  by_cases e : j = i
  · subst e
    left
    rw [List.getElem?_set] at hj
    simp at hj
    exact ⟨rfl, hj.2.symm⟩
  · right
    rw [List.getElem?_set] at hj
    rw [if_neg (fun q => e q.symm)] at hj
    exact ⟨e, hj, fun q => hp j q.symm u hj⟩
theorem V_istore0 {w : Wd} {mi : Mi} {cc : ByteArray} {L cb sb : Nat} {h : Hp} {pc pc' : Nat} {Q : Outcome → Hp → Prop} {o : Option Value} {t : List (Option Value)} {st : List Value} {x : Int32} (d : Dc cc pc (.istore_n 0) 1 pc') (hn : Nat.blt 0 mi.2.1 = true) (k : V w mi cc L cb sb h pc' (some (.int x) :: t) st Q) : V w mi cc L cb sb h pc (o :: t) (.int x :: st) Q := by
  obtain ⟨d, rfl⟩ := d
  intro p l e R s m args below meth c H locs cells slots lsA F a1 a2 a3 a4 a5 a6 hl
  refine lv_istore_n F.1 F.2.1 d rfl hl (Nat.le_of_ble_eq_true hn) rfl (fun ls' hl' => k p l e R s m args below meth c H locs cells slots ls' F a1 a2 a3 a4 a5 a6 (zls.set1 (lsA := lsA) hl' (fun j u hj => zstore 0 (o :: t) j u (.int x) rfl hj (fun q3 q1 y q2 => absurd q1 (by omega)))))
theorem V_astoreR0 {w : Wd} {mi : Mi} {cc : ByteArray} {L cb sb : Nat} {h : Hp} {pc pc' : Nat} {Q : Outcome → Hp → Prop} {o : Option Value} {t : List (Option Value)} {st : List Value} {x : Nat} (d : Dc cc pc (.astore_n 0) 1 pc') (hn : Nat.blt 0 mi.2.1 = true) (k : V w mi cc L cb sb h pc' (some (.ref x) :: t) st Q) : V w mi cc L cb sb h pc (o :: t) (.ref x :: st) Q := by
  obtain ⟨d, rfl⟩ := d
  intro p l e R s m args below meth c H locs cells slots lsA F a1 a2 a3 a4 a5 a6 hl
  refine lv_astore_n F.1 F.2.1 d rfl hl (Nat.le_of_ble_eq_true hn) rfl (fun ls' hl' => k p l e R s m args below meth c H locs cells slots ls' F a1 a2 a3 a4 a5 a6 (zls.set1 (lsA := lsA) hl' (fun j u hj => zstore 0 (o :: t) j u (.ref x) rfl hj (fun q3 q1 y q2 => absurd q1 (by omega)))))
theorem V_astoreN0 {w : Wd} {mi : Mi} {cc : ByteArray} {L cb sb : Nat} {h : Hp} {pc pc' : Nat} {Q : Outcome → Hp → Prop} {o : Option Value} {t : List (Option Value)} {st : List Value} (d : Dc cc pc (.astore_n 0) 1 pc') (hn : Nat.blt 0 mi.2.1 = true) (k : V w mi cc L cb sb h pc' (some .null :: t) st Q) : V w mi cc L cb sb h pc (o :: t) (.null :: st) Q := by
  obtain ⟨d, rfl⟩ := d
  intro p l e R s m args below meth c H locs cells slots lsA F a1 a2 a3 a4 a5 a6 hl
  refine lv_astore_nN F.1 F.2.1 d rfl hl (Nat.le_of_ble_eq_true hn) rfl (fun ls' hl' => k p l e R s m args below meth c H locs cells slots ls' F a1 a2 a3 a4 a5 a6 (zls.set1 (lsA := lsA) hl' (fun j u hj => zstore 0 (o :: t) j u .null rfl hj (fun q3 q1 y q2 => absurd q1 (by omega)))))
theorem V_astore0 {w : Wd} {mi : Mi} {cc : ByteArray} {L cb sb : Nat} {h : Hp} {pc pc' : Nat} {Q : Outcome → Hp → Prop} {o : Option Value} {t : List (Option Value)} {st : List Value} {x : Value} (d : Dc cc pc (.astore_n 0) 1 pc') (hn : Nat.blt 0 mi.2.1 = true) (hx : zrf x = true) (k : V w mi cc L cb sb h pc' (some x :: t) st Q) : V w mi cc L cb sb h pc (o :: t) (x :: st) Q := by
  cases x with
  | ref a => exact V_astoreR0 d hn k
  | null => exact V_astoreN0 d hn k
  | _ => exact absurd hx (by simp [zrf])
theorem V_iinc0 {w : Wd} {mi : Mi} {cc : ByteArray} {L cb sb : Nat} {h : Hp} {pc pc' : Nat} {Q : Outcome → Hp → Prop} {t : List (Option Value)} {st : List Value} {x v : Int32} {n : Int} (d : Dc cc pc (.iinc 0 n) 3 pc') (hn : Nat.blt 0 mi.2.1 = true) (hv : Int32.ofInt n = v) (k : V w mi cc L cb sb h pc' (some (.int (x + v)) :: t) st Q) : V w mi cc L cb sb h pc (some (.int x) :: t) st Q := by
  obtain ⟨d, rfl⟩ := d
  subst hv
  intro p l e R s m args below meth c H locs cells slots lsA F a1 a2 a3 a4 a5 a6 hl
  obtain ⟨kq, hk⟩ := List.mem_iff_getElem?.mp (zP_mem (b := 0) (i := 0) (v := .int x) (ls := (some (.int x) :: t)) |>.mpr ⟨0, rfl, rfl⟩)
  refine lv_iinc F.1 F.2.1 d hl hk rfl (Nat.le_of_ble_eq_true hn) rfl (fun ls' hl' => k p l e R s m args below meth c H locs cells slots ls' F a1 a2 a3 a4 a5 a6 (zls.set1 (lsA := lsA) hl' (fun j u hj => zstore 0 (some (.int x) :: t) j u (.int (x + Int32.ofInt n)) rfl hj (fun q3 q1 y q2 => absurd q1 (by omega)))))
theorem V_iload1 {w : Wd} {mi : Mi} {cc : ByteArray} {L cb sb : Nat} {h : Hp} {pc pc' : Nat} {Q : Outcome → Hp → Prop} {o0 : Option Value} {t : List (Option Value)} {st : List Value} {x : Int32} (d : Dc cc pc (.iload_n 1) 1 pc') (k : V w mi cc L cb sb h pc' (o0 :: some (.int x) :: t) (.int x :: st) Q) : V w mi cc L cb sb h pc (o0 :: some (.int x) :: t) st Q := by
  obtain ⟨d, rfl⟩ := d
  exact V_pure (fun p l e R s m args below meth c H locs cells slots lsA Q' hx hb hl F kk => lv_iload_n hx hb d rfl (hl.at (i := 1) rfl) kk) k
theorem V_lload1 {w : Wd} {mi : Mi} {cc : ByteArray} {L cb sb : Nat} {h : Hp} {pc pc' : Nat} {Q : Outcome → Hp → Prop} {o0 : Option Value} {t : List (Option Value)} {st : List Value} {x : Int64} (d : Dc cc pc (.lload_n 1) 1 pc') (k : V w mi cc L cb sb h pc' (o0 :: some (.long x) :: t) (.long x :: st) Q) : V w mi cc L cb sb h pc (o0 :: some (.long x) :: t) st Q := by
  obtain ⟨d, rfl⟩ := d
  exact V_pure (fun p l e R s m args below meth c H locs cells slots lsA Q' hx hb hl F kk => lv_lload_n hx hb d rfl (hl.at (i := 1) rfl) kk) k
theorem V_aload1 {w : Wd} {mi : Mi} {cc : ByteArray} {L cb sb : Nat} {h : Hp} {pc pc' : Nat} {Q : Outcome → Hp → Prop} {o0 : Option Value} {t : List (Option Value)} {st : List Value} {x : Value} (d : Dc cc pc (.aload_n 1) 1 pc') (hx : zrf x = true) (k : V w mi cc L cb sb h pc' (o0 :: some x :: t) (x :: st) Q) : V w mi cc L cb sb h pc (o0 :: some x :: t) st Q := by
  obtain ⟨d, rfl⟩ := d
  cases x with
  | ref a => exact V_pure (fun p l e R s m args below meth c H locs cells slots lsA Q' hx hb hl F kk => lv_aload_n hx hb d rfl (hl.at (i := 1) rfl) kk) k
  | null => exact V_pure (fun p l e R s m args below meth c H locs cells slots lsA Q' hx hb hl F kk => lv_aload_nN hx hb d rfl (hl.at (i := 1) rfl) kk) k
  | _ => exact absurd hx (by simp [zrf])
theorem V_istore1 {w : Wd} {mi : Mi} {cc : ByteArray} {L cb sb : Nat} {h : Hp} {pc pc' : Nat} {Q : Outcome → Hp → Prop} {o0 : Option Value} {o : Option Value} {t : List (Option Value)} {st : List Value} {x : Int32} (hp : znl o0 = true) (d : Dc cc pc (.istore_n 1) 1 pc') (hn : Nat.blt 1 mi.2.1 = true) (k : V w mi cc L cb sb h pc' (o0 :: some (.int x) :: t) st Q) : V w mi cc L cb sb h pc (o0 :: o :: t) (.int x :: st) Q := by
  obtain ⟨d, rfl⟩ := d
  intro p l e R s m args below meth c H locs cells slots lsA F a1 a2 a3 a4 a5 a6 hl
  refine lv_istore_n F.1 F.2.1 d rfl hl (Nat.le_of_ble_eq_true hn) rfl (fun ls' hl' => k p l e R s m args below meth c H locs cells slots ls' F a1 a2 a3 a4 a5 a6 (zls.set1 (lsA := lsA) hl' (fun j u hj => zstore 1 (o0 :: o :: t) j u (.int x) rfl hj (fun q3 q1 y q2 => by
      obtain rfl : q3 = 0 := by omega
      have q4 : o0 = some y := Option.some.inj q2
      rw [← q4]; exact hp))))
theorem V_astoreR1 {w : Wd} {mi : Mi} {cc : ByteArray} {L cb sb : Nat} {h : Hp} {pc pc' : Nat} {Q : Outcome → Hp → Prop} {o0 : Option Value} {o : Option Value} {t : List (Option Value)} {st : List Value} {x : Nat} (hp : znl o0 = true) (d : Dc cc pc (.astore_n 1) 1 pc') (hn : Nat.blt 1 mi.2.1 = true) (k : V w mi cc L cb sb h pc' (o0 :: some (.ref x) :: t) st Q) : V w mi cc L cb sb h pc (o0 :: o :: t) (.ref x :: st) Q := by
  obtain ⟨d, rfl⟩ := d
  intro p l e R s m args below meth c H locs cells slots lsA F a1 a2 a3 a4 a5 a6 hl
  refine lv_astore_n F.1 F.2.1 d rfl hl (Nat.le_of_ble_eq_true hn) rfl (fun ls' hl' => k p l e R s m args below meth c H locs cells slots ls' F a1 a2 a3 a4 a5 a6 (zls.set1 (lsA := lsA) hl' (fun j u hj => zstore 1 (o0 :: o :: t) j u (.ref x) rfl hj (fun q3 q1 y q2 => by
      obtain rfl : q3 = 0 := by omega
      have q4 : o0 = some y := Option.some.inj q2
      rw [← q4]; exact hp))))
theorem V_astoreN1 {w : Wd} {mi : Mi} {cc : ByteArray} {L cb sb : Nat} {h : Hp} {pc pc' : Nat} {Q : Outcome → Hp → Prop} {o0 : Option Value} {o : Option Value} {t : List (Option Value)} {st : List Value} (hp : znl o0 = true) (d : Dc cc pc (.astore_n 1) 1 pc') (hn : Nat.blt 1 mi.2.1 = true) (k : V w mi cc L cb sb h pc' (o0 :: some .null :: t) st Q) : V w mi cc L cb sb h pc (o0 :: o :: t) (.null :: st) Q := by
  obtain ⟨d, rfl⟩ := d
  intro p l e R s m args below meth c H locs cells slots lsA F a1 a2 a3 a4 a5 a6 hl
  refine lv_astore_nN F.1 F.2.1 d rfl hl (Nat.le_of_ble_eq_true hn) rfl (fun ls' hl' => k p l e R s m args below meth c H locs cells slots ls' F a1 a2 a3 a4 a5 a6 (zls.set1 (lsA := lsA) hl' (fun j u hj => zstore 1 (o0 :: o :: t) j u .null rfl hj (fun q3 q1 y q2 => by
      obtain rfl : q3 = 0 := by omega
      have q4 : o0 = some y := Option.some.inj q2
      rw [← q4]; exact hp))))
theorem V_astore1 {w : Wd} {mi : Mi} {cc : ByteArray} {L cb sb : Nat} {h : Hp} {pc pc' : Nat} {Q : Outcome → Hp → Prop} {o0 : Option Value} {o : Option Value} {t : List (Option Value)} {st : List Value} {x : Value} (hp : znl o0 = true) (d : Dc cc pc (.astore_n 1) 1 pc') (hn : Nat.blt 1 mi.2.1 = true) (hx : zrf x = true) (k : V w mi cc L cb sb h pc' (o0 :: some x :: t) st Q) : V w mi cc L cb sb h pc (o0 :: o :: t) (x :: st) Q := by
  cases x with
  | ref a => exact V_astoreR1 hp d hn k
  | null => exact V_astoreN1 hp d hn k
  | _ => exact absurd hx (by simp [zrf])
theorem V_iinc1 {w : Wd} {mi : Mi} {cc : ByteArray} {L cb sb : Nat} {h : Hp} {pc pc' : Nat} {Q : Outcome → Hp → Prop} {o0 : Option Value} {t : List (Option Value)} {st : List Value} {x v : Int32} {n : Int} (hp : znl o0 = true) (d : Dc cc pc (.iinc 1 n) 3 pc') (hn : Nat.blt 1 mi.2.1 = true) (hv : Int32.ofInt n = v) (k : V w mi cc L cb sb h pc' (o0 :: some (.int (x + v)) :: t) st Q) : V w mi cc L cb sb h pc (o0 :: some (.int x) :: t) st Q := by
  obtain ⟨d, rfl⟩ := d
  subst hv
  intro p l e R s m args below meth c H locs cells slots lsA F a1 a2 a3 a4 a5 a6 hl
  obtain ⟨kq, hk⟩ := List.mem_iff_getElem?.mp (zP_mem (b := 0) (i := 1) (v := .int x) (ls := (o0 :: some (.int x) :: t)) |>.mpr ⟨1, rfl, rfl⟩)
  refine lv_iinc F.1 F.2.1 d hl hk rfl (Nat.le_of_ble_eq_true hn) rfl (fun ls' hl' => k p l e R s m args below meth c H locs cells slots ls' F a1 a2 a3 a4 a5 a6 (zls.set1 (lsA := lsA) hl' (fun j u hj => zstore 1 (o0 :: some (.int x) :: t) j u (.int (x + Int32.ofInt n)) rfl hj (fun q3 q1 y q2 => by
      obtain rfl : q3 = 0 := by omega
      have q4 : o0 = some y := Option.some.inj q2
      rw [← q4]; exact hp))))
theorem V_iload2 {w : Wd} {mi : Mi} {cc : ByteArray} {L cb sb : Nat} {h : Hp} {pc pc' : Nat} {Q : Outcome → Hp → Prop} {o0 o1 : Option Value} {t : List (Option Value)} {st : List Value} {x : Int32} (d : Dc cc pc (.iload_n 2) 1 pc') (k : V w mi cc L cb sb h pc' (o0 :: o1 :: some (.int x) :: t) (.int x :: st) Q) : V w mi cc L cb sb h pc (o0 :: o1 :: some (.int x) :: t) st Q := by
  obtain ⟨d, rfl⟩ := d
  exact V_pure (fun p l e R s m args below meth c H locs cells slots lsA Q' hx hb hl F kk => lv_iload_n hx hb d rfl (hl.at (i := 2) rfl) kk) k
theorem V_lload2 {w : Wd} {mi : Mi} {cc : ByteArray} {L cb sb : Nat} {h : Hp} {pc pc' : Nat} {Q : Outcome → Hp → Prop} {o0 o1 : Option Value} {t : List (Option Value)} {st : List Value} {x : Int64} (d : Dc cc pc (.lload_n 2) 1 pc') (k : V w mi cc L cb sb h pc' (o0 :: o1 :: some (.long x) :: t) (.long x :: st) Q) : V w mi cc L cb sb h pc (o0 :: o1 :: some (.long x) :: t) st Q := by
  obtain ⟨d, rfl⟩ := d
  exact V_pure (fun p l e R s m args below meth c H locs cells slots lsA Q' hx hb hl F kk => lv_lload_n hx hb d rfl (hl.at (i := 2) rfl) kk) k
theorem V_aload2 {w : Wd} {mi : Mi} {cc : ByteArray} {L cb sb : Nat} {h : Hp} {pc pc' : Nat} {Q : Outcome → Hp → Prop} {o0 o1 : Option Value} {t : List (Option Value)} {st : List Value} {x : Value} (d : Dc cc pc (.aload_n 2) 1 pc') (hx : zrf x = true) (k : V w mi cc L cb sb h pc' (o0 :: o1 :: some x :: t) (x :: st) Q) : V w mi cc L cb sb h pc (o0 :: o1 :: some x :: t) st Q := by
  obtain ⟨d, rfl⟩ := d
  cases x with
  | ref a => exact V_pure (fun p l e R s m args below meth c H locs cells slots lsA Q' hx hb hl F kk => lv_aload_n hx hb d rfl (hl.at (i := 2) rfl) kk) k
  | null => exact V_pure (fun p l e R s m args below meth c H locs cells slots lsA Q' hx hb hl F kk => lv_aload_nN hx hb d rfl (hl.at (i := 2) rfl) kk) k
  | _ => exact absurd hx (by simp [zrf])
theorem V_istore2 {w : Wd} {mi : Mi} {cc : ByteArray} {L cb sb : Nat} {h : Hp} {pc pc' : Nat} {Q : Outcome → Hp → Prop} {o0 o1 : Option Value} {o : Option Value} {t : List (Option Value)} {st : List Value} {x : Int32} (hp : znl o1 = true) (d : Dc cc pc (.istore_n 2) 1 pc') (hn : Nat.blt 2 mi.2.1 = true) (k : V w mi cc L cb sb h pc' (o0 :: o1 :: some (.int x) :: t) st Q) : V w mi cc L cb sb h pc (o0 :: o1 :: o :: t) (.int x :: st) Q := by
  obtain ⟨d, rfl⟩ := d
  intro p l e R s m args below meth c H locs cells slots lsA F a1 a2 a3 a4 a5 a6 hl
  refine lv_istore_n F.1 F.2.1 d rfl hl (Nat.le_of_ble_eq_true hn) rfl (fun ls' hl' => k p l e R s m args below meth c H locs cells slots ls' F a1 a2 a3 a4 a5 a6 (zls.set1 (lsA := lsA) hl' (fun j u hj => zstore 2 (o0 :: o1 :: o :: t) j u (.int x) rfl hj (fun q3 q1 y q2 => by
      obtain rfl : q3 = 1 := by omega
      have q4 : o1 = some y := Option.some.inj q2
      rw [← q4]; exact hp))))
theorem V_astoreR2 {w : Wd} {mi : Mi} {cc : ByteArray} {L cb sb : Nat} {h : Hp} {pc pc' : Nat} {Q : Outcome → Hp → Prop} {o0 o1 : Option Value} {o : Option Value} {t : List (Option Value)} {st : List Value} {x : Nat} (hp : znl o1 = true) (d : Dc cc pc (.astore_n 2) 1 pc') (hn : Nat.blt 2 mi.2.1 = true) (k : V w mi cc L cb sb h pc' (o0 :: o1 :: some (.ref x) :: t) st Q) : V w mi cc L cb sb h pc (o0 :: o1 :: o :: t) (.ref x :: st) Q := by
  obtain ⟨d, rfl⟩ := d
  intro p l e R s m args below meth c H locs cells slots lsA F a1 a2 a3 a4 a5 a6 hl
  refine lv_astore_n F.1 F.2.1 d rfl hl (Nat.le_of_ble_eq_true hn) rfl (fun ls' hl' => k p l e R s m args below meth c H locs cells slots ls' F a1 a2 a3 a4 a5 a6 (zls.set1 (lsA := lsA) hl' (fun j u hj => zstore 2 (o0 :: o1 :: o :: t) j u (.ref x) rfl hj (fun q3 q1 y q2 => by
      obtain rfl : q3 = 1 := by omega
      have q4 : o1 = some y := Option.some.inj q2
      rw [← q4]; exact hp))))
theorem V_astoreN2 {w : Wd} {mi : Mi} {cc : ByteArray} {L cb sb : Nat} {h : Hp} {pc pc' : Nat} {Q : Outcome → Hp → Prop} {o0 o1 : Option Value} {o : Option Value} {t : List (Option Value)} {st : List Value} (hp : znl o1 = true) (d : Dc cc pc (.astore_n 2) 1 pc') (hn : Nat.blt 2 mi.2.1 = true) (k : V w mi cc L cb sb h pc' (o0 :: o1 :: some .null :: t) st Q) : V w mi cc L cb sb h pc (o0 :: o1 :: o :: t) (.null :: st) Q := by
  obtain ⟨d, rfl⟩ := d
  intro p l e R s m args below meth c H locs cells slots lsA F a1 a2 a3 a4 a5 a6 hl
  refine lv_astore_nN F.1 F.2.1 d rfl hl (Nat.le_of_ble_eq_true hn) rfl (fun ls' hl' => k p l e R s m args below meth c H locs cells slots ls' F a1 a2 a3 a4 a5 a6 (zls.set1 (lsA := lsA) hl' (fun j u hj => zstore 2 (o0 :: o1 :: o :: t) j u .null rfl hj (fun q3 q1 y q2 => by
      obtain rfl : q3 = 1 := by omega
      have q4 : o1 = some y := Option.some.inj q2
      rw [← q4]; exact hp))))
theorem V_astore2 {w : Wd} {mi : Mi} {cc : ByteArray} {L cb sb : Nat} {h : Hp} {pc pc' : Nat} {Q : Outcome → Hp → Prop} {o0 o1 : Option Value} {o : Option Value} {t : List (Option Value)} {st : List Value} {x : Value} (hp : znl o1 = true) (d : Dc cc pc (.astore_n 2) 1 pc') (hn : Nat.blt 2 mi.2.1 = true) (hx : zrf x = true) (k : V w mi cc L cb sb h pc' (o0 :: o1 :: some x :: t) st Q) : V w mi cc L cb sb h pc (o0 :: o1 :: o :: t) (x :: st) Q := by
  cases x with
  | ref a => exact V_astoreR2 hp d hn k
  | null => exact V_astoreN2 hp d hn k
  | _ => exact absurd hx (by simp [zrf])
theorem V_iinc2 {w : Wd} {mi : Mi} {cc : ByteArray} {L cb sb : Nat} {h : Hp} {pc pc' : Nat} {Q : Outcome → Hp → Prop} {o0 o1 : Option Value} {t : List (Option Value)} {st : List Value} {x v : Int32} {n : Int} (hp : znl o1 = true) (d : Dc cc pc (.iinc 2 n) 3 pc') (hn : Nat.blt 2 mi.2.1 = true) (hv : Int32.ofInt n = v) (k : V w mi cc L cb sb h pc' (o0 :: o1 :: some (.int (x + v)) :: t) st Q) : V w mi cc L cb sb h pc (o0 :: o1 :: some (.int x) :: t) st Q := by
  obtain ⟨d, rfl⟩ := d
  subst hv
  intro p l e R s m args below meth c H locs cells slots lsA F a1 a2 a3 a4 a5 a6 hl
  obtain ⟨kq, hk⟩ := List.mem_iff_getElem?.mp (zP_mem (b := 0) (i := 2) (v := .int x) (ls := (o0 :: o1 :: some (.int x) :: t)) |>.mpr ⟨2, rfl, rfl⟩)
  refine lv_iinc F.1 F.2.1 d hl hk rfl (Nat.le_of_ble_eq_true hn) rfl (fun ls' hl' => k p l e R s m args below meth c H locs cells slots ls' F a1 a2 a3 a4 a5 a6 (zls.set1 (lsA := lsA) hl' (fun j u hj => zstore 2 (o0 :: o1 :: some (.int x) :: t) j u (.int (x + Int32.ofInt n)) rfl hj (fun q3 q1 y q2 => by
      obtain rfl : q3 = 1 := by omega
      have q4 : o1 = some y := Option.some.inj q2
      rw [← q4]; exact hp))))
theorem V_iload3 {w : Wd} {mi : Mi} {cc : ByteArray} {L cb sb : Nat} {h : Hp} {pc pc' : Nat} {Q : Outcome → Hp → Prop} {o0 o1 o2 : Option Value} {t : List (Option Value)} {st : List Value} {x : Int32} (d : Dc cc pc (.iload_n 3) 1 pc') (k : V w mi cc L cb sb h pc' (o0 :: o1 :: o2 :: some (.int x) :: t) (.int x :: st) Q) : V w mi cc L cb sb h pc (o0 :: o1 :: o2 :: some (.int x) :: t) st Q := by
  obtain ⟨d, rfl⟩ := d
  exact V_pure (fun p l e R s m args below meth c H locs cells slots lsA Q' hx hb hl F kk => lv_iload_n hx hb d rfl (hl.at (i := 3) rfl) kk) k
theorem V_lload3 {w : Wd} {mi : Mi} {cc : ByteArray} {L cb sb : Nat} {h : Hp} {pc pc' : Nat} {Q : Outcome → Hp → Prop} {o0 o1 o2 : Option Value} {t : List (Option Value)} {st : List Value} {x : Int64} (d : Dc cc pc (.lload_n 3) 1 pc') (k : V w mi cc L cb sb h pc' (o0 :: o1 :: o2 :: some (.long x) :: t) (.long x :: st) Q) : V w mi cc L cb sb h pc (o0 :: o1 :: o2 :: some (.long x) :: t) st Q := by
  obtain ⟨d, rfl⟩ := d
  exact V_pure (fun p l e R s m args below meth c H locs cells slots lsA Q' hx hb hl F kk => lv_lload_n hx hb d rfl (hl.at (i := 3) rfl) kk) k
theorem V_aload3 {w : Wd} {mi : Mi} {cc : ByteArray} {L cb sb : Nat} {h : Hp} {pc pc' : Nat} {Q : Outcome → Hp → Prop} {o0 o1 o2 : Option Value} {t : List (Option Value)} {st : List Value} {x : Value} (d : Dc cc pc (.aload_n 3) 1 pc') (hx : zrf x = true) (k : V w mi cc L cb sb h pc' (o0 :: o1 :: o2 :: some x :: t) (x :: st) Q) : V w mi cc L cb sb h pc (o0 :: o1 :: o2 :: some x :: t) st Q := by
  obtain ⟨d, rfl⟩ := d
  cases x with
  | ref a => exact V_pure (fun p l e R s m args below meth c H locs cells slots lsA Q' hx hb hl F kk => lv_aload_n hx hb d rfl (hl.at (i := 3) rfl) kk) k
  | null => exact V_pure (fun p l e R s m args below meth c H locs cells slots lsA Q' hx hb hl F kk => lv_aload_nN hx hb d rfl (hl.at (i := 3) rfl) kk) k
  | _ => exact absurd hx (by simp [zrf])
theorem V_istore3 {w : Wd} {mi : Mi} {cc : ByteArray} {L cb sb : Nat} {h : Hp} {pc pc' : Nat} {Q : Outcome → Hp → Prop} {o0 o1 o2 : Option Value} {o : Option Value} {t : List (Option Value)} {st : List Value} {x : Int32} (hp : znl o2 = true) (d : Dc cc pc (.istore_n 3) 1 pc') (hn : Nat.blt 3 mi.2.1 = true) (k : V w mi cc L cb sb h pc' (o0 :: o1 :: o2 :: some (.int x) :: t) st Q) : V w mi cc L cb sb h pc (o0 :: o1 :: o2 :: o :: t) (.int x :: st) Q := by
  obtain ⟨d, rfl⟩ := d
  intro p l e R s m args below meth c H locs cells slots lsA F a1 a2 a3 a4 a5 a6 hl
  refine lv_istore_n F.1 F.2.1 d rfl hl (Nat.le_of_ble_eq_true hn) rfl (fun ls' hl' => k p l e R s m args below meth c H locs cells slots ls' F a1 a2 a3 a4 a5 a6 (zls.set1 (lsA := lsA) hl' (fun j u hj => zstore 3 (o0 :: o1 :: o2 :: o :: t) j u (.int x) rfl hj (fun q3 q1 y q2 => by
      obtain rfl : q3 = 2 := by omega
      have q4 : o2 = some y := Option.some.inj q2
      rw [← q4]; exact hp))))
theorem V_astoreR3 {w : Wd} {mi : Mi} {cc : ByteArray} {L cb sb : Nat} {h : Hp} {pc pc' : Nat} {Q : Outcome → Hp → Prop} {o0 o1 o2 : Option Value} {o : Option Value} {t : List (Option Value)} {st : List Value} {x : Nat} (hp : znl o2 = true) (d : Dc cc pc (.astore_n 3) 1 pc') (hn : Nat.blt 3 mi.2.1 = true) (k : V w mi cc L cb sb h pc' (o0 :: o1 :: o2 :: some (.ref x) :: t) st Q) : V w mi cc L cb sb h pc (o0 :: o1 :: o2 :: o :: t) (.ref x :: st) Q := by
  obtain ⟨d, rfl⟩ := d
  intro p l e R s m args below meth c H locs cells slots lsA F a1 a2 a3 a4 a5 a6 hl
  refine lv_astore_n F.1 F.2.1 d rfl hl (Nat.le_of_ble_eq_true hn) rfl (fun ls' hl' => k p l e R s m args below meth c H locs cells slots ls' F a1 a2 a3 a4 a5 a6 (zls.set1 (lsA := lsA) hl' (fun j u hj => zstore 3 (o0 :: o1 :: o2 :: o :: t) j u (.ref x) rfl hj (fun q3 q1 y q2 => by
      obtain rfl : q3 = 2 := by omega
      have q4 : o2 = some y := Option.some.inj q2
      rw [← q4]; exact hp))))
theorem V_astoreN3 {w : Wd} {mi : Mi} {cc : ByteArray} {L cb sb : Nat} {h : Hp} {pc pc' : Nat} {Q : Outcome → Hp → Prop} {o0 o1 o2 : Option Value} {o : Option Value} {t : List (Option Value)} {st : List Value} (hp : znl o2 = true) (d : Dc cc pc (.astore_n 3) 1 pc') (hn : Nat.blt 3 mi.2.1 = true) (k : V w mi cc L cb sb h pc' (o0 :: o1 :: o2 :: some .null :: t) st Q) : V w mi cc L cb sb h pc (o0 :: o1 :: o2 :: o :: t) (.null :: st) Q := by
  obtain ⟨d, rfl⟩ := d
  intro p l e R s m args below meth c H locs cells slots lsA F a1 a2 a3 a4 a5 a6 hl
  refine lv_astore_nN F.1 F.2.1 d rfl hl (Nat.le_of_ble_eq_true hn) rfl (fun ls' hl' => k p l e R s m args below meth c H locs cells slots ls' F a1 a2 a3 a4 a5 a6 (zls.set1 (lsA := lsA) hl' (fun j u hj => zstore 3 (o0 :: o1 :: o2 :: o :: t) j u .null rfl hj (fun q3 q1 y q2 => by
      obtain rfl : q3 = 2 := by omega
      have q4 : o2 = some y := Option.some.inj q2
      rw [← q4]; exact hp))))
theorem V_astore3 {w : Wd} {mi : Mi} {cc : ByteArray} {L cb sb : Nat} {h : Hp} {pc pc' : Nat} {Q : Outcome → Hp → Prop} {o0 o1 o2 : Option Value} {o : Option Value} {t : List (Option Value)} {st : List Value} {x : Value} (hp : znl o2 = true) (d : Dc cc pc (.astore_n 3) 1 pc') (hn : Nat.blt 3 mi.2.1 = true) (hx : zrf x = true) (k : V w mi cc L cb sb h pc' (o0 :: o1 :: o2 :: some x :: t) st Q) : V w mi cc L cb sb h pc (o0 :: o1 :: o2 :: o :: t) (x :: st) Q := by
  cases x with
  | ref a => exact V_astoreR3 hp d hn k
  | null => exact V_astoreN3 hp d hn k
  | _ => exact absurd hx (by simp [zrf])
theorem V_iinc3 {w : Wd} {mi : Mi} {cc : ByteArray} {L cb sb : Nat} {h : Hp} {pc pc' : Nat} {Q : Outcome → Hp → Prop} {o0 o1 o2 : Option Value} {t : List (Option Value)} {st : List Value} {x v : Int32} {n : Int} (hp : znl o2 = true) (d : Dc cc pc (.iinc 3 n) 3 pc') (hn : Nat.blt 3 mi.2.1 = true) (hv : Int32.ofInt n = v) (k : V w mi cc L cb sb h pc' (o0 :: o1 :: o2 :: some (.int (x + v)) :: t) st Q) : V w mi cc L cb sb h pc (o0 :: o1 :: o2 :: some (.int x) :: t) st Q := by
  obtain ⟨d, rfl⟩ := d
  subst hv
  intro p l e R s m args below meth c H locs cells slots lsA F a1 a2 a3 a4 a5 a6 hl
  obtain ⟨kq, hk⟩ := List.mem_iff_getElem?.mp (zP_mem (b := 0) (i := 3) (v := .int x) (ls := (o0 :: o1 :: o2 :: some (.int x) :: t)) |>.mpr ⟨3, rfl, rfl⟩)
  refine lv_iinc F.1 F.2.1 d hl hk rfl (Nat.le_of_ble_eq_true hn) rfl (fun ls' hl' => k p l e R s m args below meth c H locs cells slots ls' F a1 a2 a3 a4 a5 a6 (zls.set1 (lsA := lsA) hl' (fun j u hj => zstore 3 (o0 :: o1 :: o2 :: some (.int x) :: t) j u (.int (x + Int32.ofInt n)) rfl hj (fun q3 q1 y q2 => by
      obtain rfl : q3 = 2 := by omega
      have q4 : o2 = some y := Option.some.inj q2
      rw [← q4]; exact hp))))
theorem V_iload4 {w : Wd} {mi : Mi} {cc : ByteArray} {L cb sb : Nat} {h : Hp} {pc pc' : Nat} {Q : Outcome → Hp → Prop} {o0 o1 o2 o3 : Option Value} {t : List (Option Value)} {st : List Value} {x : Int32} (d : Dc cc pc (.iload 4) 2 pc') (k : V w mi cc L cb sb h pc' (o0 :: o1 :: o2 :: o3 :: some (.int x) :: t) (.int x :: st) Q) : V w mi cc L cb sb h pc (o0 :: o1 :: o2 :: o3 :: some (.int x) :: t) st Q := by
  obtain ⟨d, rfl⟩ := d
  exact V_pure (fun p l e R s m args below meth c H locs cells slots lsA Q' hx hb hl F kk => lv_iload hx hb d (hl.at (i := 4) rfl) kk) k
theorem V_lload4 {w : Wd} {mi : Mi} {cc : ByteArray} {L cb sb : Nat} {h : Hp} {pc pc' : Nat} {Q : Outcome → Hp → Prop} {o0 o1 o2 o3 : Option Value} {t : List (Option Value)} {st : List Value} {x : Int64} (d : Dc cc pc (.lload 4) 2 pc') (k : V w mi cc L cb sb h pc' (o0 :: o1 :: o2 :: o3 :: some (.long x) :: t) (.long x :: st) Q) : V w mi cc L cb sb h pc (o0 :: o1 :: o2 :: o3 :: some (.long x) :: t) st Q := by
  obtain ⟨d, rfl⟩ := d
  exact V_pure (fun p l e R s m args below meth c H locs cells slots lsA Q' hx hb hl F kk => lv_lload hx hb d (hl.at (i := 4) rfl) kk) k
theorem V_aload4 {w : Wd} {mi : Mi} {cc : ByteArray} {L cb sb : Nat} {h : Hp} {pc pc' : Nat} {Q : Outcome → Hp → Prop} {o0 o1 o2 o3 : Option Value} {t : List (Option Value)} {st : List Value} {x : Value} (d : Dc cc pc (.aload 4) 2 pc') (hx : zrf x = true) (k : V w mi cc L cb sb h pc' (o0 :: o1 :: o2 :: o3 :: some x :: t) (x :: st) Q) : V w mi cc L cb sb h pc (o0 :: o1 :: o2 :: o3 :: some x :: t) st Q := by
  obtain ⟨d, rfl⟩ := d
  cases x with
  | ref a => exact V_pure (fun p l e R s m args below meth c H locs cells slots lsA Q' hx hb hl F kk => lv_aload hx hb d (hl.at (i := 4) rfl) kk) k
  | null => exact V_pure (fun p l e R s m args below meth c H locs cells slots lsA Q' hx hb hl F kk => lv_aloadN hx hb d (hl.at (i := 4) rfl) kk) k
  | _ => exact absurd hx (by simp [zrf])
theorem V_istore4 {w : Wd} {mi : Mi} {cc : ByteArray} {L cb sb : Nat} {h : Hp} {pc pc' : Nat} {Q : Outcome → Hp → Prop} {o0 o1 o2 o3 : Option Value} {o : Option Value} {t : List (Option Value)} {st : List Value} {x : Int32} (hp : znl o3 = true) (d : Dc cc pc (.istore 4) 2 pc') (hn : Nat.blt 4 mi.2.1 = true) (k : V w mi cc L cb sb h pc' (o0 :: o1 :: o2 :: o3 :: some (.int x) :: t) st Q) : V w mi cc L cb sb h pc (o0 :: o1 :: o2 :: o3 :: o :: t) (.int x :: st) Q := by
  obtain ⟨d, rfl⟩ := d
  intro p l e R s m args below meth c H locs cells slots lsA F a1 a2 a3 a4 a5 a6 hl
  refine lv_istore F.1 F.2.1 d hl (Nat.le_of_ble_eq_true hn) rfl (fun ls' hl' => k p l e R s m args below meth c H locs cells slots ls' F a1 a2 a3 a4 a5 a6 (zls.set1 (lsA := lsA) hl' (fun j u hj => zstore 4 (o0 :: o1 :: o2 :: o3 :: o :: t) j u (.int x) rfl hj (fun q3 q1 y q2 => by
      obtain rfl : q3 = 3 := by omega
      have q4 : o3 = some y := Option.some.inj q2
      rw [← q4]; exact hp))))
theorem V_astoreR4 {w : Wd} {mi : Mi} {cc : ByteArray} {L cb sb : Nat} {h : Hp} {pc pc' : Nat} {Q : Outcome → Hp → Prop} {o0 o1 o2 o3 : Option Value} {o : Option Value} {t : List (Option Value)} {st : List Value} {x : Nat} (hp : znl o3 = true) (d : Dc cc pc (.astore 4) 2 pc') (hn : Nat.blt 4 mi.2.1 = true) (k : V w mi cc L cb sb h pc' (o0 :: o1 :: o2 :: o3 :: some (.ref x) :: t) st Q) : V w mi cc L cb sb h pc (o0 :: o1 :: o2 :: o3 :: o :: t) (.ref x :: st) Q := by
  obtain ⟨d, rfl⟩ := d
  intro p l e R s m args below meth c H locs cells slots lsA F a1 a2 a3 a4 a5 a6 hl
  refine lv_astore F.1 F.2.1 d hl (Nat.le_of_ble_eq_true hn) rfl (fun ls' hl' => k p l e R s m args below meth c H locs cells slots ls' F a1 a2 a3 a4 a5 a6 (zls.set1 (lsA := lsA) hl' (fun j u hj => zstore 4 (o0 :: o1 :: o2 :: o3 :: o :: t) j u (.ref x) rfl hj (fun q3 q1 y q2 => by
      obtain rfl : q3 = 3 := by omega
      have q4 : o3 = some y := Option.some.inj q2
      rw [← q4]; exact hp))))
theorem V_astoreN4 {w : Wd} {mi : Mi} {cc : ByteArray} {L cb sb : Nat} {h : Hp} {pc pc' : Nat} {Q : Outcome → Hp → Prop} {o0 o1 o2 o3 : Option Value} {o : Option Value} {t : List (Option Value)} {st : List Value} (hp : znl o3 = true) (d : Dc cc pc (.astore 4) 2 pc') (hn : Nat.blt 4 mi.2.1 = true) (k : V w mi cc L cb sb h pc' (o0 :: o1 :: o2 :: o3 :: some .null :: t) st Q) : V w mi cc L cb sb h pc (o0 :: o1 :: o2 :: o3 :: o :: t) (.null :: st) Q := by
  obtain ⟨d, rfl⟩ := d
  intro p l e R s m args below meth c H locs cells slots lsA F a1 a2 a3 a4 a5 a6 hl
  refine lv_astoreN F.1 F.2.1 d hl (Nat.le_of_ble_eq_true hn) rfl (fun ls' hl' => k p l e R s m args below meth c H locs cells slots ls' F a1 a2 a3 a4 a5 a6 (zls.set1 (lsA := lsA) hl' (fun j u hj => zstore 4 (o0 :: o1 :: o2 :: o3 :: o :: t) j u .null rfl hj (fun q3 q1 y q2 => by
      obtain rfl : q3 = 3 := by omega
      have q4 : o3 = some y := Option.some.inj q2
      rw [← q4]; exact hp))))
theorem V_astore4 {w : Wd} {mi : Mi} {cc : ByteArray} {L cb sb : Nat} {h : Hp} {pc pc' : Nat} {Q : Outcome → Hp → Prop} {o0 o1 o2 o3 : Option Value} {o : Option Value} {t : List (Option Value)} {st : List Value} {x : Value} (hp : znl o3 = true) (d : Dc cc pc (.astore 4) 2 pc') (hn : Nat.blt 4 mi.2.1 = true) (hx : zrf x = true) (k : V w mi cc L cb sb h pc' (o0 :: o1 :: o2 :: o3 :: some x :: t) st Q) : V w mi cc L cb sb h pc (o0 :: o1 :: o2 :: o3 :: o :: t) (x :: st) Q := by
  cases x with
  | ref a => exact V_astoreR4 hp d hn k
  | null => exact V_astoreN4 hp d hn k
  | _ => exact absurd hx (by simp [zrf])
theorem V_iinc4 {w : Wd} {mi : Mi} {cc : ByteArray} {L cb sb : Nat} {h : Hp} {pc pc' : Nat} {Q : Outcome → Hp → Prop} {o0 o1 o2 o3 : Option Value} {t : List (Option Value)} {st : List Value} {x v : Int32} {n : Int} (hp : znl o3 = true) (d : Dc cc pc (.iinc 4 n) 3 pc') (hn : Nat.blt 4 mi.2.1 = true) (hv : Int32.ofInt n = v) (k : V w mi cc L cb sb h pc' (o0 :: o1 :: o2 :: o3 :: some (.int (x + v)) :: t) st Q) : V w mi cc L cb sb h pc (o0 :: o1 :: o2 :: o3 :: some (.int x) :: t) st Q := by
  obtain ⟨d, rfl⟩ := d
  subst hv
  intro p l e R s m args below meth c H locs cells slots lsA F a1 a2 a3 a4 a5 a6 hl
  obtain ⟨kq, hk⟩ := List.mem_iff_getElem?.mp (zP_mem (b := 0) (i := 4) (v := .int x) (ls := (o0 :: o1 :: o2 :: o3 :: some (.int x) :: t)) |>.mpr ⟨4, rfl, rfl⟩)
  refine lv_iinc F.1 F.2.1 d hl hk rfl (Nat.le_of_ble_eq_true hn) rfl (fun ls' hl' => k p l e R s m args below meth c H locs cells slots ls' F a1 a2 a3 a4 a5 a6 (zls.set1 (lsA := lsA) hl' (fun j u hj => zstore 4 (o0 :: o1 :: o2 :: o3 :: some (.int x) :: t) j u (.int (x + Int32.ofInt n)) rfl hj (fun q3 q1 y q2 => by
      obtain rfl : q3 = 3 := by omega
      have q4 : o3 = some y := Option.some.inj q2
      rw [← q4]; exact hp))))
theorem V_iload5 {w : Wd} {mi : Mi} {cc : ByteArray} {L cb sb : Nat} {h : Hp} {pc pc' : Nat} {Q : Outcome → Hp → Prop} {o0 o1 o2 o3 o4 : Option Value} {t : List (Option Value)} {st : List Value} {x : Int32} (d : Dc cc pc (.iload 5) 2 pc') (k : V w mi cc L cb sb h pc' (o0 :: o1 :: o2 :: o3 :: o4 :: some (.int x) :: t) (.int x :: st) Q) : V w mi cc L cb sb h pc (o0 :: o1 :: o2 :: o3 :: o4 :: some (.int x) :: t) st Q := by
  obtain ⟨d, rfl⟩ := d
  exact V_pure (fun p l e R s m args below meth c H locs cells slots lsA Q' hx hb hl F kk => lv_iload hx hb d (hl.at (i := 5) rfl) kk) k
theorem V_lload5 {w : Wd} {mi : Mi} {cc : ByteArray} {L cb sb : Nat} {h : Hp} {pc pc' : Nat} {Q : Outcome → Hp → Prop} {o0 o1 o2 o3 o4 : Option Value} {t : List (Option Value)} {st : List Value} {x : Int64} (d : Dc cc pc (.lload 5) 2 pc') (k : V w mi cc L cb sb h pc' (o0 :: o1 :: o2 :: o3 :: o4 :: some (.long x) :: t) (.long x :: st) Q) : V w mi cc L cb sb h pc (o0 :: o1 :: o2 :: o3 :: o4 :: some (.long x) :: t) st Q := by
  obtain ⟨d, rfl⟩ := d
  exact V_pure (fun p l e R s m args below meth c H locs cells slots lsA Q' hx hb hl F kk => lv_lload hx hb d (hl.at (i := 5) rfl) kk) k
theorem V_aload5 {w : Wd} {mi : Mi} {cc : ByteArray} {L cb sb : Nat} {h : Hp} {pc pc' : Nat} {Q : Outcome → Hp → Prop} {o0 o1 o2 o3 o4 : Option Value} {t : List (Option Value)} {st : List Value} {x : Value} (d : Dc cc pc (.aload 5) 2 pc') (hx : zrf x = true) (k : V w mi cc L cb sb h pc' (o0 :: o1 :: o2 :: o3 :: o4 :: some x :: t) (x :: st) Q) : V w mi cc L cb sb h pc (o0 :: o1 :: o2 :: o3 :: o4 :: some x :: t) st Q := by
  obtain ⟨d, rfl⟩ := d
  cases x with
  | ref a => exact V_pure (fun p l e R s m args below meth c H locs cells slots lsA Q' hx hb hl F kk => lv_aload hx hb d (hl.at (i := 5) rfl) kk) k
  | null => exact V_pure (fun p l e R s m args below meth c H locs cells slots lsA Q' hx hb hl F kk => lv_aloadN hx hb d (hl.at (i := 5) rfl) kk) k
  | _ => exact absurd hx (by simp [zrf])
theorem V_istore5 {w : Wd} {mi : Mi} {cc : ByteArray} {L cb sb : Nat} {h : Hp} {pc pc' : Nat} {Q : Outcome → Hp → Prop} {o0 o1 o2 o3 o4 : Option Value} {o : Option Value} {t : List (Option Value)} {st : List Value} {x : Int32} (hp : znl o4 = true) (d : Dc cc pc (.istore 5) 2 pc') (hn : Nat.blt 5 mi.2.1 = true) (k : V w mi cc L cb sb h pc' (o0 :: o1 :: o2 :: o3 :: o4 :: some (.int x) :: t) st Q) : V w mi cc L cb sb h pc (o0 :: o1 :: o2 :: o3 :: o4 :: o :: t) (.int x :: st) Q := by
  obtain ⟨d, rfl⟩ := d
  intro p l e R s m args below meth c H locs cells slots lsA F a1 a2 a3 a4 a5 a6 hl
  refine lv_istore F.1 F.2.1 d hl (Nat.le_of_ble_eq_true hn) rfl (fun ls' hl' => k p l e R s m args below meth c H locs cells slots ls' F a1 a2 a3 a4 a5 a6 (zls.set1 (lsA := lsA) hl' (fun j u hj => zstore 5 (o0 :: o1 :: o2 :: o3 :: o4 :: o :: t) j u (.int x) rfl hj (fun q3 q1 y q2 => by
      obtain rfl : q3 = 4 := by omega
      have q4 : o4 = some y := Option.some.inj q2
      rw [← q4]; exact hp))))
theorem V_astoreR5 {w : Wd} {mi : Mi} {cc : ByteArray} {L cb sb : Nat} {h : Hp} {pc pc' : Nat} {Q : Outcome → Hp → Prop} {o0 o1 o2 o3 o4 : Option Value} {o : Option Value} {t : List (Option Value)} {st : List Value} {x : Nat} (hp : znl o4 = true) (d : Dc cc pc (.astore 5) 2 pc') (hn : Nat.blt 5 mi.2.1 = true) (k : V w mi cc L cb sb h pc' (o0 :: o1 :: o2 :: o3 :: o4 :: some (.ref x) :: t) st Q) : V w mi cc L cb sb h pc (o0 :: o1 :: o2 :: o3 :: o4 :: o :: t) (.ref x :: st) Q := by
  obtain ⟨d, rfl⟩ := d
  intro p l e R s m args below meth c H locs cells slots lsA F a1 a2 a3 a4 a5 a6 hl
  refine lv_astore F.1 F.2.1 d hl (Nat.le_of_ble_eq_true hn) rfl (fun ls' hl' => k p l e R s m args below meth c H locs cells slots ls' F a1 a2 a3 a4 a5 a6 (zls.set1 (lsA := lsA) hl' (fun j u hj => zstore 5 (o0 :: o1 :: o2 :: o3 :: o4 :: o :: t) j u (.ref x) rfl hj (fun q3 q1 y q2 => by
      obtain rfl : q3 = 4 := by omega
      have q4 : o4 = some y := Option.some.inj q2
      rw [← q4]; exact hp))))
theorem V_astoreN5 {w : Wd} {mi : Mi} {cc : ByteArray} {L cb sb : Nat} {h : Hp} {pc pc' : Nat} {Q : Outcome → Hp → Prop} {o0 o1 o2 o3 o4 : Option Value} {o : Option Value} {t : List (Option Value)} {st : List Value} (hp : znl o4 = true) (d : Dc cc pc (.astore 5) 2 pc') (hn : Nat.blt 5 mi.2.1 = true) (k : V w mi cc L cb sb h pc' (o0 :: o1 :: o2 :: o3 :: o4 :: some .null :: t) st Q) : V w mi cc L cb sb h pc (o0 :: o1 :: o2 :: o3 :: o4 :: o :: t) (.null :: st) Q := by
  obtain ⟨d, rfl⟩ := d
  intro p l e R s m args below meth c H locs cells slots lsA F a1 a2 a3 a4 a5 a6 hl
  refine lv_astoreN F.1 F.2.1 d hl (Nat.le_of_ble_eq_true hn) rfl (fun ls' hl' => k p l e R s m args below meth c H locs cells slots ls' F a1 a2 a3 a4 a5 a6 (zls.set1 (lsA := lsA) hl' (fun j u hj => zstore 5 (o0 :: o1 :: o2 :: o3 :: o4 :: o :: t) j u .null rfl hj (fun q3 q1 y q2 => by
      obtain rfl : q3 = 4 := by omega
      have q4 : o4 = some y := Option.some.inj q2
      rw [← q4]; exact hp))))
theorem V_astore5 {w : Wd} {mi : Mi} {cc : ByteArray} {L cb sb : Nat} {h : Hp} {pc pc' : Nat} {Q : Outcome → Hp → Prop} {o0 o1 o2 o3 o4 : Option Value} {o : Option Value} {t : List (Option Value)} {st : List Value} {x : Value} (hp : znl o4 = true) (d : Dc cc pc (.astore 5) 2 pc') (hn : Nat.blt 5 mi.2.1 = true) (hx : zrf x = true) (k : V w mi cc L cb sb h pc' (o0 :: o1 :: o2 :: o3 :: o4 :: some x :: t) st Q) : V w mi cc L cb sb h pc (o0 :: o1 :: o2 :: o3 :: o4 :: o :: t) (x :: st) Q := by
  cases x with
  | ref a => exact V_astoreR5 hp d hn k
  | null => exact V_astoreN5 hp d hn k
  | _ => exact absurd hx (by simp [zrf])
theorem V_iinc5 {w : Wd} {mi : Mi} {cc : ByteArray} {L cb sb : Nat} {h : Hp} {pc pc' : Nat} {Q : Outcome → Hp → Prop} {o0 o1 o2 o3 o4 : Option Value} {t : List (Option Value)} {st : List Value} {x v : Int32} {n : Int} (hp : znl o4 = true) (d : Dc cc pc (.iinc 5 n) 3 pc') (hn : Nat.blt 5 mi.2.1 = true) (hv : Int32.ofInt n = v) (k : V w mi cc L cb sb h pc' (o0 :: o1 :: o2 :: o3 :: o4 :: some (.int (x + v)) :: t) st Q) : V w mi cc L cb sb h pc (o0 :: o1 :: o2 :: o3 :: o4 :: some (.int x) :: t) st Q := by
  obtain ⟨d, rfl⟩ := d
  subst hv
  intro p l e R s m args below meth c H locs cells slots lsA F a1 a2 a3 a4 a5 a6 hl
  obtain ⟨kq, hk⟩ := List.mem_iff_getElem?.mp (zP_mem (b := 0) (i := 5) (v := .int x) (ls := (o0 :: o1 :: o2 :: o3 :: o4 :: some (.int x) :: t)) |>.mpr ⟨5, rfl, rfl⟩)
  refine lv_iinc F.1 F.2.1 d hl hk rfl (Nat.le_of_ble_eq_true hn) rfl (fun ls' hl' => k p l e R s m args below meth c H locs cells slots ls' F a1 a2 a3 a4 a5 a6 (zls.set1 (lsA := lsA) hl' (fun j u hj => zstore 5 (o0 :: o1 :: o2 :: o3 :: o4 :: some (.int x) :: t) j u (.int (x + Int32.ofInt n)) rfl hj (fun q3 q1 y q2 => by
      obtain rfl : q3 = 4 := by omega
      have q4 : o4 = some y := Option.some.inj q2
      rw [← q4]; exact hp))))
theorem V_iload6 {w : Wd} {mi : Mi} {cc : ByteArray} {L cb sb : Nat} {h : Hp} {pc pc' : Nat} {Q : Outcome → Hp → Prop} {o0 o1 o2 o3 o4 o5 : Option Value} {t : List (Option Value)} {st : List Value} {x : Int32} (d : Dc cc pc (.iload 6) 2 pc') (k : V w mi cc L cb sb h pc' (o0 :: o1 :: o2 :: o3 :: o4 :: o5 :: some (.int x) :: t) (.int x :: st) Q) : V w mi cc L cb sb h pc (o0 :: o1 :: o2 :: o3 :: o4 :: o5 :: some (.int x) :: t) st Q := by
  obtain ⟨d, rfl⟩ := d
  exact V_pure (fun p l e R s m args below meth c H locs cells slots lsA Q' hx hb hl F kk => lv_iload hx hb d (hl.at (i := 6) rfl) kk) k
theorem V_lload6 {w : Wd} {mi : Mi} {cc : ByteArray} {L cb sb : Nat} {h : Hp} {pc pc' : Nat} {Q : Outcome → Hp → Prop} {o0 o1 o2 o3 o4 o5 : Option Value} {t : List (Option Value)} {st : List Value} {x : Int64} (d : Dc cc pc (.lload 6) 2 pc') (k : V w mi cc L cb sb h pc' (o0 :: o1 :: o2 :: o3 :: o4 :: o5 :: some (.long x) :: t) (.long x :: st) Q) : V w mi cc L cb sb h pc (o0 :: o1 :: o2 :: o3 :: o4 :: o5 :: some (.long x) :: t) st Q := by
  obtain ⟨d, rfl⟩ := d
  exact V_pure (fun p l e R s m args below meth c H locs cells slots lsA Q' hx hb hl F kk => lv_lload hx hb d (hl.at (i := 6) rfl) kk) k
theorem V_aload6 {w : Wd} {mi : Mi} {cc : ByteArray} {L cb sb : Nat} {h : Hp} {pc pc' : Nat} {Q : Outcome → Hp → Prop} {o0 o1 o2 o3 o4 o5 : Option Value} {t : List (Option Value)} {st : List Value} {x : Value} (d : Dc cc pc (.aload 6) 2 pc') (hx : zrf x = true) (k : V w mi cc L cb sb h pc' (o0 :: o1 :: o2 :: o3 :: o4 :: o5 :: some x :: t) (x :: st) Q) : V w mi cc L cb sb h pc (o0 :: o1 :: o2 :: o3 :: o4 :: o5 :: some x :: t) st Q := by
  obtain ⟨d, rfl⟩ := d
  cases x with
  | ref a => exact V_pure (fun p l e R s m args below meth c H locs cells slots lsA Q' hx hb hl F kk => lv_aload hx hb d (hl.at (i := 6) rfl) kk) k
  | null => exact V_pure (fun p l e R s m args below meth c H locs cells slots lsA Q' hx hb hl F kk => lv_aloadN hx hb d (hl.at (i := 6) rfl) kk) k
  | _ => exact absurd hx (by simp [zrf])
theorem V_istore6 {w : Wd} {mi : Mi} {cc : ByteArray} {L cb sb : Nat} {h : Hp} {pc pc' : Nat} {Q : Outcome → Hp → Prop} {o0 o1 o2 o3 o4 o5 : Option Value} {o : Option Value} {t : List (Option Value)} {st : List Value} {x : Int32} (hp : znl o5 = true) (d : Dc cc pc (.istore 6) 2 pc') (hn : Nat.blt 6 mi.2.1 = true) (k : V w mi cc L cb sb h pc' (o0 :: o1 :: o2 :: o3 :: o4 :: o5 :: some (.int x) :: t) st Q) : V w mi cc L cb sb h pc (o0 :: o1 :: o2 :: o3 :: o4 :: o5 :: o :: t) (.int x :: st) Q := by
  obtain ⟨d, rfl⟩ := d
  intro p l e R s m args below meth c H locs cells slots lsA F a1 a2 a3 a4 a5 a6 hl
  refine lv_istore F.1 F.2.1 d hl (Nat.le_of_ble_eq_true hn) rfl (fun ls' hl' => k p l e R s m args below meth c H locs cells slots ls' F a1 a2 a3 a4 a5 a6 (zls.set1 (lsA := lsA) hl' (fun j u hj => zstore 6 (o0 :: o1 :: o2 :: o3 :: o4 :: o5 :: o :: t) j u (.int x) rfl hj (fun q3 q1 y q2 => by
      obtain rfl : q3 = 5 := by omega
      have q4 : o5 = some y := Option.some.inj q2
      rw [← q4]; exact hp))))
theorem V_astoreR6 {w : Wd} {mi : Mi} {cc : ByteArray} {L cb sb : Nat} {h : Hp} {pc pc' : Nat} {Q : Outcome → Hp → Prop} {o0 o1 o2 o3 o4 o5 : Option Value} {o : Option Value} {t : List (Option Value)} {st : List Value} {x : Nat} (hp : znl o5 = true) (d : Dc cc pc (.astore 6) 2 pc') (hn : Nat.blt 6 mi.2.1 = true) (k : V w mi cc L cb sb h pc' (o0 :: o1 :: o2 :: o3 :: o4 :: o5 :: some (.ref x) :: t) st Q) : V w mi cc L cb sb h pc (o0 :: o1 :: o2 :: o3 :: o4 :: o5 :: o :: t) (.ref x :: st) Q := by
  obtain ⟨d, rfl⟩ := d
  intro p l e R s m args below meth c H locs cells slots lsA F a1 a2 a3 a4 a5 a6 hl
  refine lv_astore F.1 F.2.1 d hl (Nat.le_of_ble_eq_true hn) rfl (fun ls' hl' => k p l e R s m args below meth c H locs cells slots ls' F a1 a2 a3 a4 a5 a6 (zls.set1 (lsA := lsA) hl' (fun j u hj => zstore 6 (o0 :: o1 :: o2 :: o3 :: o4 :: o5 :: o :: t) j u (.ref x) rfl hj (fun q3 q1 y q2 => by
      obtain rfl : q3 = 5 := by omega
      have q4 : o5 = some y := Option.some.inj q2
      rw [← q4]; exact hp))))
theorem V_astoreN6 {w : Wd} {mi : Mi} {cc : ByteArray} {L cb sb : Nat} {h : Hp} {pc pc' : Nat} {Q : Outcome → Hp → Prop} {o0 o1 o2 o3 o4 o5 : Option Value} {o : Option Value} {t : List (Option Value)} {st : List Value} (hp : znl o5 = true) (d : Dc cc pc (.astore 6) 2 pc') (hn : Nat.blt 6 mi.2.1 = true) (k : V w mi cc L cb sb h pc' (o0 :: o1 :: o2 :: o3 :: o4 :: o5 :: some .null :: t) st Q) : V w mi cc L cb sb h pc (o0 :: o1 :: o2 :: o3 :: o4 :: o5 :: o :: t) (.null :: st) Q := by
  obtain ⟨d, rfl⟩ := d
  intro p l e R s m args below meth c H locs cells slots lsA F a1 a2 a3 a4 a5 a6 hl
  refine lv_astoreN F.1 F.2.1 d hl (Nat.le_of_ble_eq_true hn) rfl (fun ls' hl' => k p l e R s m args below meth c H locs cells slots ls' F a1 a2 a3 a4 a5 a6 (zls.set1 (lsA := lsA) hl' (fun j u hj => zstore 6 (o0 :: o1 :: o2 :: o3 :: o4 :: o5 :: o :: t) j u .null rfl hj (fun q3 q1 y q2 => by
      obtain rfl : q3 = 5 := by omega
      have q4 : o5 = some y := Option.some.inj q2
      rw [← q4]; exact hp))))
theorem V_astore6 {w : Wd} {mi : Mi} {cc : ByteArray} {L cb sb : Nat} {h : Hp} {pc pc' : Nat} {Q : Outcome → Hp → Prop} {o0 o1 o2 o3 o4 o5 : Option Value} {o : Option Value} {t : List (Option Value)} {st : List Value} {x : Value} (hp : znl o5 = true) (d : Dc cc pc (.astore 6) 2 pc') (hn : Nat.blt 6 mi.2.1 = true) (hx : zrf x = true) (k : V w mi cc L cb sb h pc' (o0 :: o1 :: o2 :: o3 :: o4 :: o5 :: some x :: t) st Q) : V w mi cc L cb sb h pc (o0 :: o1 :: o2 :: o3 :: o4 :: o5 :: o :: t) (x :: st) Q := by
  cases x with
  | ref a => exact V_astoreR6 hp d hn k
  | null => exact V_astoreN6 hp d hn k
  | _ => exact absurd hx (by simp [zrf])
theorem V_iinc6 {w : Wd} {mi : Mi} {cc : ByteArray} {L cb sb : Nat} {h : Hp} {pc pc' : Nat} {Q : Outcome → Hp → Prop} {o0 o1 o2 o3 o4 o5 : Option Value} {t : List (Option Value)} {st : List Value} {x v : Int32} {n : Int} (hp : znl o5 = true) (d : Dc cc pc (.iinc 6 n) 3 pc') (hn : Nat.blt 6 mi.2.1 = true) (hv : Int32.ofInt n = v) (k : V w mi cc L cb sb h pc' (o0 :: o1 :: o2 :: o3 :: o4 :: o5 :: some (.int (x + v)) :: t) st Q) : V w mi cc L cb sb h pc (o0 :: o1 :: o2 :: o3 :: o4 :: o5 :: some (.int x) :: t) st Q := by
  obtain ⟨d, rfl⟩ := d
  subst hv
  intro p l e R s m args below meth c H locs cells slots lsA F a1 a2 a3 a4 a5 a6 hl
  obtain ⟨kq, hk⟩ := List.mem_iff_getElem?.mp (zP_mem (b := 0) (i := 6) (v := .int x) (ls := (o0 :: o1 :: o2 :: o3 :: o4 :: o5 :: some (.int x) :: t)) |>.mpr ⟨6, rfl, rfl⟩)
  refine lv_iinc F.1 F.2.1 d hl hk rfl (Nat.le_of_ble_eq_true hn) rfl (fun ls' hl' => k p l e R s m args below meth c H locs cells slots ls' F a1 a2 a3 a4 a5 a6 (zls.set1 (lsA := lsA) hl' (fun j u hj => zstore 6 (o0 :: o1 :: o2 :: o3 :: o4 :: o5 :: some (.int x) :: t) j u (.int (x + Int32.ofInt n)) rfl hj (fun q3 q1 y q2 => by
      obtain rfl : q3 = 5 := by omega
      have q4 : o5 = some y := Option.some.inj q2
      rw [← q4]; exact hp))))
theorem V_iload7 {w : Wd} {mi : Mi} {cc : ByteArray} {L cb sb : Nat} {h : Hp} {pc pc' : Nat} {Q : Outcome → Hp → Prop} {o0 o1 o2 o3 o4 o5 o6 : Option Value} {t : List (Option Value)} {st : List Value} {x : Int32} (d : Dc cc pc (.iload 7) 2 pc') (k : V w mi cc L cb sb h pc' (o0 :: o1 :: o2 :: o3 :: o4 :: o5 :: o6 :: some (.int x) :: t) (.int x :: st) Q) : V w mi cc L cb sb h pc (o0 :: o1 :: o2 :: o3 :: o4 :: o5 :: o6 :: some (.int x) :: t) st Q := by
  obtain ⟨d, rfl⟩ := d
  exact V_pure (fun p l e R s m args below meth c H locs cells slots lsA Q' hx hb hl F kk => lv_iload hx hb d (hl.at (i := 7) rfl) kk) k
theorem V_lload7 {w : Wd} {mi : Mi} {cc : ByteArray} {L cb sb : Nat} {h : Hp} {pc pc' : Nat} {Q : Outcome → Hp → Prop} {o0 o1 o2 o3 o4 o5 o6 : Option Value} {t : List (Option Value)} {st : List Value} {x : Int64} (d : Dc cc pc (.lload 7) 2 pc') (k : V w mi cc L cb sb h pc' (o0 :: o1 :: o2 :: o3 :: o4 :: o5 :: o6 :: some (.long x) :: t) (.long x :: st) Q) : V w mi cc L cb sb h pc (o0 :: o1 :: o2 :: o3 :: o4 :: o5 :: o6 :: some (.long x) :: t) st Q := by
  obtain ⟨d, rfl⟩ := d
  exact V_pure (fun p l e R s m args below meth c H locs cells slots lsA Q' hx hb hl F kk => lv_lload hx hb d (hl.at (i := 7) rfl) kk) k
theorem V_aload7 {w : Wd} {mi : Mi} {cc : ByteArray} {L cb sb : Nat} {h : Hp} {pc pc' : Nat} {Q : Outcome → Hp → Prop} {o0 o1 o2 o3 o4 o5 o6 : Option Value} {t : List (Option Value)} {st : List Value} {x : Value} (d : Dc cc pc (.aload 7) 2 pc') (hx : zrf x = true) (k : V w mi cc L cb sb h pc' (o0 :: o1 :: o2 :: o3 :: o4 :: o5 :: o6 :: some x :: t) (x :: st) Q) : V w mi cc L cb sb h pc (o0 :: o1 :: o2 :: o3 :: o4 :: o5 :: o6 :: some x :: t) st Q := by
  obtain ⟨d, rfl⟩ := d
  cases x with
  | ref a => exact V_pure (fun p l e R s m args below meth c H locs cells slots lsA Q' hx hb hl F kk => lv_aload hx hb d (hl.at (i := 7) rfl) kk) k
  | null => exact V_pure (fun p l e R s m args below meth c H locs cells slots lsA Q' hx hb hl F kk => lv_aloadN hx hb d (hl.at (i := 7) rfl) kk) k
  | _ => exact absurd hx (by simp [zrf])
theorem V_istore7 {w : Wd} {mi : Mi} {cc : ByteArray} {L cb sb : Nat} {h : Hp} {pc pc' : Nat} {Q : Outcome → Hp → Prop} {o0 o1 o2 o3 o4 o5 o6 : Option Value} {o : Option Value} {t : List (Option Value)} {st : List Value} {x : Int32} (hp : znl o6 = true) (d : Dc cc pc (.istore 7) 2 pc') (hn : Nat.blt 7 mi.2.1 = true) (k : V w mi cc L cb sb h pc' (o0 :: o1 :: o2 :: o3 :: o4 :: o5 :: o6 :: some (.int x) :: t) st Q) : V w mi cc L cb sb h pc (o0 :: o1 :: o2 :: o3 :: o4 :: o5 :: o6 :: o :: t) (.int x :: st) Q := by
  obtain ⟨d, rfl⟩ := d
  intro p l e R s m args below meth c H locs cells slots lsA F a1 a2 a3 a4 a5 a6 hl
  refine lv_istore F.1 F.2.1 d hl (Nat.le_of_ble_eq_true hn) rfl (fun ls' hl' => k p l e R s m args below meth c H locs cells slots ls' F a1 a2 a3 a4 a5 a6 (zls.set1 (lsA := lsA) hl' (fun j u hj => zstore 7 (o0 :: o1 :: o2 :: o3 :: o4 :: o5 :: o6 :: o :: t) j u (.int x) rfl hj (fun q3 q1 y q2 => by
      obtain rfl : q3 = 6 := by omega
      have q4 : o6 = some y := Option.some.inj q2
      rw [← q4]; exact hp))))
theorem V_astoreR7 {w : Wd} {mi : Mi} {cc : ByteArray} {L cb sb : Nat} {h : Hp} {pc pc' : Nat} {Q : Outcome → Hp → Prop} {o0 o1 o2 o3 o4 o5 o6 : Option Value} {o : Option Value} {t : List (Option Value)} {st : List Value} {x : Nat} (hp : znl o6 = true) (d : Dc cc pc (.astore 7) 2 pc') (hn : Nat.blt 7 mi.2.1 = true) (k : V w mi cc L cb sb h pc' (o0 :: o1 :: o2 :: o3 :: o4 :: o5 :: o6 :: some (.ref x) :: t) st Q) : V w mi cc L cb sb h pc (o0 :: o1 :: o2 :: o3 :: o4 :: o5 :: o6 :: o :: t) (.ref x :: st) Q := by
  obtain ⟨d, rfl⟩ := d
  intro p l e R s m args below meth c H locs cells slots lsA F a1 a2 a3 a4 a5 a6 hl
  refine lv_astore F.1 F.2.1 d hl (Nat.le_of_ble_eq_true hn) rfl (fun ls' hl' => k p l e R s m args below meth c H locs cells slots ls' F a1 a2 a3 a4 a5 a6 (zls.set1 (lsA := lsA) hl' (fun j u hj => zstore 7 (o0 :: o1 :: o2 :: o3 :: o4 :: o5 :: o6 :: o :: t) j u (.ref x) rfl hj (fun q3 q1 y q2 => by
      obtain rfl : q3 = 6 := by omega
      have q4 : o6 = some y := Option.some.inj q2
      rw [← q4]; exact hp))))
theorem V_astoreN7 {w : Wd} {mi : Mi} {cc : ByteArray} {L cb sb : Nat} {h : Hp} {pc pc' : Nat} {Q : Outcome → Hp → Prop} {o0 o1 o2 o3 o4 o5 o6 : Option Value} {o : Option Value} {t : List (Option Value)} {st : List Value} (hp : znl o6 = true) (d : Dc cc pc (.astore 7) 2 pc') (hn : Nat.blt 7 mi.2.1 = true) (k : V w mi cc L cb sb h pc' (o0 :: o1 :: o2 :: o3 :: o4 :: o5 :: o6 :: some .null :: t) st Q) : V w mi cc L cb sb h pc (o0 :: o1 :: o2 :: o3 :: o4 :: o5 :: o6 :: o :: t) (.null :: st) Q := by
  obtain ⟨d, rfl⟩ := d
  intro p l e R s m args below meth c H locs cells slots lsA F a1 a2 a3 a4 a5 a6 hl
  refine lv_astoreN F.1 F.2.1 d hl (Nat.le_of_ble_eq_true hn) rfl (fun ls' hl' => k p l e R s m args below meth c H locs cells slots ls' F a1 a2 a3 a4 a5 a6 (zls.set1 (lsA := lsA) hl' (fun j u hj => zstore 7 (o0 :: o1 :: o2 :: o3 :: o4 :: o5 :: o6 :: o :: t) j u .null rfl hj (fun q3 q1 y q2 => by
      obtain rfl : q3 = 6 := by omega
      have q4 : o6 = some y := Option.some.inj q2
      rw [← q4]; exact hp))))
theorem V_astore7 {w : Wd} {mi : Mi} {cc : ByteArray} {L cb sb : Nat} {h : Hp} {pc pc' : Nat} {Q : Outcome → Hp → Prop} {o0 o1 o2 o3 o4 o5 o6 : Option Value} {o : Option Value} {t : List (Option Value)} {st : List Value} {x : Value} (hp : znl o6 = true) (d : Dc cc pc (.astore 7) 2 pc') (hn : Nat.blt 7 mi.2.1 = true) (hx : zrf x = true) (k : V w mi cc L cb sb h pc' (o0 :: o1 :: o2 :: o3 :: o4 :: o5 :: o6 :: some x :: t) st Q) : V w mi cc L cb sb h pc (o0 :: o1 :: o2 :: o3 :: o4 :: o5 :: o6 :: o :: t) (x :: st) Q := by
  cases x with
  | ref a => exact V_astoreR7 hp d hn k
  | null => exact V_astoreN7 hp d hn k
  | _ => exact absurd hx (by simp [zrf])
theorem V_iinc7 {w : Wd} {mi : Mi} {cc : ByteArray} {L cb sb : Nat} {h : Hp} {pc pc' : Nat} {Q : Outcome → Hp → Prop} {o0 o1 o2 o3 o4 o5 o6 : Option Value} {t : List (Option Value)} {st : List Value} {x v : Int32} {n : Int} (hp : znl o6 = true) (d : Dc cc pc (.iinc 7 n) 3 pc') (hn : Nat.blt 7 mi.2.1 = true) (hv : Int32.ofInt n = v) (k : V w mi cc L cb sb h pc' (o0 :: o1 :: o2 :: o3 :: o4 :: o5 :: o6 :: some (.int (x + v)) :: t) st Q) : V w mi cc L cb sb h pc (o0 :: o1 :: o2 :: o3 :: o4 :: o5 :: o6 :: some (.int x) :: t) st Q := by
  obtain ⟨d, rfl⟩ := d
  subst hv
  intro p l e R s m args below meth c H locs cells slots lsA F a1 a2 a3 a4 a5 a6 hl
  obtain ⟨kq, hk⟩ := List.mem_iff_getElem?.mp (zP_mem (b := 0) (i := 7) (v := .int x) (ls := (o0 :: o1 :: o2 :: o3 :: o4 :: o5 :: o6 :: some (.int x) :: t)) |>.mpr ⟨7, rfl, rfl⟩)
  refine lv_iinc F.1 F.2.1 d hl hk rfl (Nat.le_of_ble_eq_true hn) rfl (fun ls' hl' => k p l e R s m args below meth c H locs cells slots ls' F a1 a2 a3 a4 a5 a6 (zls.set1 (lsA := lsA) hl' (fun j u hj => zstore 7 (o0 :: o1 :: o2 :: o3 :: o4 :: o5 :: o6 :: some (.int x) :: t) j u (.int (x + Int32.ofInt n)) rfl hj (fun q3 q1 y q2 => by
      obtain rfl : q3 = 6 := by omega
      have q4 : o6 = some y := Option.some.inj q2
      rw [← q4]; exact hp))))
theorem V_iload8 {w : Wd} {mi : Mi} {cc : ByteArray} {L cb sb : Nat} {h : Hp} {pc pc' : Nat} {Q : Outcome → Hp → Prop} {o0 o1 o2 o3 o4 o5 o6 o7 : Option Value} {t : List (Option Value)} {st : List Value} {x : Int32} (d : Dc cc pc (.iload 8) 2 pc') (k : V w mi cc L cb sb h pc' (o0 :: o1 :: o2 :: o3 :: o4 :: o5 :: o6 :: o7 :: some (.int x) :: t) (.int x :: st) Q) : V w mi cc L cb sb h pc (o0 :: o1 :: o2 :: o3 :: o4 :: o5 :: o6 :: o7 :: some (.int x) :: t) st Q := by
  obtain ⟨d, rfl⟩ := d
  exact V_pure (fun p l e R s m args below meth c H locs cells slots lsA Q' hx hb hl F kk => lv_iload hx hb d (hl.at (i := 8) rfl) kk) k
theorem V_lload8 {w : Wd} {mi : Mi} {cc : ByteArray} {L cb sb : Nat} {h : Hp} {pc pc' : Nat} {Q : Outcome → Hp → Prop} {o0 o1 o2 o3 o4 o5 o6 o7 : Option Value} {t : List (Option Value)} {st : List Value} {x : Int64} (d : Dc cc pc (.lload 8) 2 pc') (k : V w mi cc L cb sb h pc' (o0 :: o1 :: o2 :: o3 :: o4 :: o5 :: o6 :: o7 :: some (.long x) :: t) (.long x :: st) Q) : V w mi cc L cb sb h pc (o0 :: o1 :: o2 :: o3 :: o4 :: o5 :: o6 :: o7 :: some (.long x) :: t) st Q := by
  obtain ⟨d, rfl⟩ := d
  exact V_pure (fun p l e R s m args below meth c H locs cells slots lsA Q' hx hb hl F kk => lv_lload hx hb d (hl.at (i := 8) rfl) kk) k
theorem V_aload8 {w : Wd} {mi : Mi} {cc : ByteArray} {L cb sb : Nat} {h : Hp} {pc pc' : Nat} {Q : Outcome → Hp → Prop} {o0 o1 o2 o3 o4 o5 o6 o7 : Option Value} {t : List (Option Value)} {st : List Value} {x : Value} (d : Dc cc pc (.aload 8) 2 pc') (hx : zrf x = true) (k : V w mi cc L cb sb h pc' (o0 :: o1 :: o2 :: o3 :: o4 :: o5 :: o6 :: o7 :: some x :: t) (x :: st) Q) : V w mi cc L cb sb h pc (o0 :: o1 :: o2 :: o3 :: o4 :: o5 :: o6 :: o7 :: some x :: t) st Q := by
  obtain ⟨d, rfl⟩ := d
  cases x with
  | ref a => exact V_pure (fun p l e R s m args below meth c H locs cells slots lsA Q' hx hb hl F kk => lv_aload hx hb d (hl.at (i := 8) rfl) kk) k
  | null => exact V_pure (fun p l e R s m args below meth c H locs cells slots lsA Q' hx hb hl F kk => lv_aloadN hx hb d (hl.at (i := 8) rfl) kk) k
  | _ => exact absurd hx (by simp [zrf])
theorem V_istore8 {w : Wd} {mi : Mi} {cc : ByteArray} {L cb sb : Nat} {h : Hp} {pc pc' : Nat} {Q : Outcome → Hp → Prop} {o0 o1 o2 o3 o4 o5 o6 o7 : Option Value} {o : Option Value} {t : List (Option Value)} {st : List Value} {x : Int32} (hp : znl o7 = true) (d : Dc cc pc (.istore 8) 2 pc') (hn : Nat.blt 8 mi.2.1 = true) (k : V w mi cc L cb sb h pc' (o0 :: o1 :: o2 :: o3 :: o4 :: o5 :: o6 :: o7 :: some (.int x) :: t) st Q) : V w mi cc L cb sb h pc (o0 :: o1 :: o2 :: o3 :: o4 :: o5 :: o6 :: o7 :: o :: t) (.int x :: st) Q := by
  obtain ⟨d, rfl⟩ := d
  intro p l e R s m args below meth c H locs cells slots lsA F a1 a2 a3 a4 a5 a6 hl
  refine lv_istore F.1 F.2.1 d hl (Nat.le_of_ble_eq_true hn) rfl (fun ls' hl' => k p l e R s m args below meth c H locs cells slots ls' F a1 a2 a3 a4 a5 a6 (zls.set1 (lsA := lsA) hl' (fun j u hj => zstore 8 (o0 :: o1 :: o2 :: o3 :: o4 :: o5 :: o6 :: o7 :: o :: t) j u (.int x) rfl hj (fun q3 q1 y q2 => by
      obtain rfl : q3 = 7 := by omega
      have q4 : o7 = some y := Option.some.inj q2
      rw [← q4]; exact hp))))
theorem V_astoreR8 {w : Wd} {mi : Mi} {cc : ByteArray} {L cb sb : Nat} {h : Hp} {pc pc' : Nat} {Q : Outcome → Hp → Prop} {o0 o1 o2 o3 o4 o5 o6 o7 : Option Value} {o : Option Value} {t : List (Option Value)} {st : List Value} {x : Nat} (hp : znl o7 = true) (d : Dc cc pc (.astore 8) 2 pc') (hn : Nat.blt 8 mi.2.1 = true) (k : V w mi cc L cb sb h pc' (o0 :: o1 :: o2 :: o3 :: o4 :: o5 :: o6 :: o7 :: some (.ref x) :: t) st Q) : V w mi cc L cb sb h pc (o0 :: o1 :: o2 :: o3 :: o4 :: o5 :: o6 :: o7 :: o :: t) (.ref x :: st) Q := by
  obtain ⟨d, rfl⟩ := d
  intro p l e R s m args below meth c H locs cells slots lsA F a1 a2 a3 a4 a5 a6 hl
  refine lv_astore F.1 F.2.1 d hl (Nat.le_of_ble_eq_true hn) rfl (fun ls' hl' => k p l e R s m args below meth c H locs cells slots ls' F a1 a2 a3 a4 a5 a6 (zls.set1 (lsA := lsA) hl' (fun j u hj => zstore 8 (o0 :: o1 :: o2 :: o3 :: o4 :: o5 :: o6 :: o7 :: o :: t) j u (.ref x) rfl hj (fun q3 q1 y q2 => by
      obtain rfl : q3 = 7 := by omega
      have q4 : o7 = some y := Option.some.inj q2
      rw [← q4]; exact hp))))
theorem V_astoreN8 {w : Wd} {mi : Mi} {cc : ByteArray} {L cb sb : Nat} {h : Hp} {pc pc' : Nat} {Q : Outcome → Hp → Prop} {o0 o1 o2 o3 o4 o5 o6 o7 : Option Value} {o : Option Value} {t : List (Option Value)} {st : List Value} (hp : znl o7 = true) (d : Dc cc pc (.astore 8) 2 pc') (hn : Nat.blt 8 mi.2.1 = true) (k : V w mi cc L cb sb h pc' (o0 :: o1 :: o2 :: o3 :: o4 :: o5 :: o6 :: o7 :: some .null :: t) st Q) : V w mi cc L cb sb h pc (o0 :: o1 :: o2 :: o3 :: o4 :: o5 :: o6 :: o7 :: o :: t) (.null :: st) Q := by
  obtain ⟨d, rfl⟩ := d
  intro p l e R s m args below meth c H locs cells slots lsA F a1 a2 a3 a4 a5 a6 hl
  refine lv_astoreN F.1 F.2.1 d hl (Nat.le_of_ble_eq_true hn) rfl (fun ls' hl' => k p l e R s m args below meth c H locs cells slots ls' F a1 a2 a3 a4 a5 a6 (zls.set1 (lsA := lsA) hl' (fun j u hj => zstore 8 (o0 :: o1 :: o2 :: o3 :: o4 :: o5 :: o6 :: o7 :: o :: t) j u .null rfl hj (fun q3 q1 y q2 => by
      obtain rfl : q3 = 7 := by omega
      have q4 : o7 = some y := Option.some.inj q2
      rw [← q4]; exact hp))))
theorem V_astore8 {w : Wd} {mi : Mi} {cc : ByteArray} {L cb sb : Nat} {h : Hp} {pc pc' : Nat} {Q : Outcome → Hp → Prop} {o0 o1 o2 o3 o4 o5 o6 o7 : Option Value} {o : Option Value} {t : List (Option Value)} {st : List Value} {x : Value} (hp : znl o7 = true) (d : Dc cc pc (.astore 8) 2 pc') (hn : Nat.blt 8 mi.2.1 = true) (hx : zrf x = true) (k : V w mi cc L cb sb h pc' (o0 :: o1 :: o2 :: o3 :: o4 :: o5 :: o6 :: o7 :: some x :: t) st Q) : V w mi cc L cb sb h pc (o0 :: o1 :: o2 :: o3 :: o4 :: o5 :: o6 :: o7 :: o :: t) (x :: st) Q := by
  cases x with
  | ref a => exact V_astoreR8 hp d hn k
  | null => exact V_astoreN8 hp d hn k
  | _ => exact absurd hx (by simp [zrf])
theorem V_iinc8 {w : Wd} {mi : Mi} {cc : ByteArray} {L cb sb : Nat} {h : Hp} {pc pc' : Nat} {Q : Outcome → Hp → Prop} {o0 o1 o2 o3 o4 o5 o6 o7 : Option Value} {t : List (Option Value)} {st : List Value} {x v : Int32} {n : Int} (hp : znl o7 = true) (d : Dc cc pc (.iinc 8 n) 3 pc') (hn : Nat.blt 8 mi.2.1 = true) (hv : Int32.ofInt n = v) (k : V w mi cc L cb sb h pc' (o0 :: o1 :: o2 :: o3 :: o4 :: o5 :: o6 :: o7 :: some (.int (x + v)) :: t) st Q) : V w mi cc L cb sb h pc (o0 :: o1 :: o2 :: o3 :: o4 :: o5 :: o6 :: o7 :: some (.int x) :: t) st Q := by
  obtain ⟨d, rfl⟩ := d
  subst hv
  intro p l e R s m args below meth c H locs cells slots lsA F a1 a2 a3 a4 a5 a6 hl
  obtain ⟨kq, hk⟩ := List.mem_iff_getElem?.mp (zP_mem (b := 0) (i := 8) (v := .int x) (ls := (o0 :: o1 :: o2 :: o3 :: o4 :: o5 :: o6 :: o7 :: some (.int x) :: t)) |>.mpr ⟨8, rfl, rfl⟩)
  refine lv_iinc F.1 F.2.1 d hl hk rfl (Nat.le_of_ble_eq_true hn) rfl (fun ls' hl' => k p l e R s m args below meth c H locs cells slots ls' F a1 a2 a3 a4 a5 a6 (zls.set1 (lsA := lsA) hl' (fun j u hj => zstore 8 (o0 :: o1 :: o2 :: o3 :: o4 :: o5 :: o6 :: o7 :: some (.int x) :: t) j u (.int (x + Int32.ofInt n)) rfl hj (fun q3 q1 y q2 => by
      obtain rfl : q3 = 7 := by omega
      have q4 : o7 = some y := Option.some.inj q2
      rw [← q4]; exact hp))))
theorem V_iload9 {w : Wd} {mi : Mi} {cc : ByteArray} {L cb sb : Nat} {h : Hp} {pc pc' : Nat} {Q : Outcome → Hp → Prop} {o0 o1 o2 o3 o4 o5 o6 o7 o8 : Option Value} {t : List (Option Value)} {st : List Value} {x : Int32} (d : Dc cc pc (.iload 9) 2 pc') (k : V w mi cc L cb sb h pc' (o0 :: o1 :: o2 :: o3 :: o4 :: o5 :: o6 :: o7 :: o8 :: some (.int x) :: t) (.int x :: st) Q) : V w mi cc L cb sb h pc (o0 :: o1 :: o2 :: o3 :: o4 :: o5 :: o6 :: o7 :: o8 :: some (.int x) :: t) st Q := by
  obtain ⟨d, rfl⟩ := d
  exact V_pure (fun p l e R s m args below meth c H locs cells slots lsA Q' hx hb hl F kk => lv_iload hx hb d (hl.at (i := 9) rfl) kk) k
theorem V_lload9 {w : Wd} {mi : Mi} {cc : ByteArray} {L cb sb : Nat} {h : Hp} {pc pc' : Nat} {Q : Outcome → Hp → Prop} {o0 o1 o2 o3 o4 o5 o6 o7 o8 : Option Value} {t : List (Option Value)} {st : List Value} {x : Int64} (d : Dc cc pc (.lload 9) 2 pc') (k : V w mi cc L cb sb h pc' (o0 :: o1 :: o2 :: o3 :: o4 :: o5 :: o6 :: o7 :: o8 :: some (.long x) :: t) (.long x :: st) Q) : V w mi cc L cb sb h pc (o0 :: o1 :: o2 :: o3 :: o4 :: o5 :: o6 :: o7 :: o8 :: some (.long x) :: t) st Q := by
  obtain ⟨d, rfl⟩ := d
  exact V_pure (fun p l e R s m args below meth c H locs cells slots lsA Q' hx hb hl F kk => lv_lload hx hb d (hl.at (i := 9) rfl) kk) k
theorem V_aload9 {w : Wd} {mi : Mi} {cc : ByteArray} {L cb sb : Nat} {h : Hp} {pc pc' : Nat} {Q : Outcome → Hp → Prop} {o0 o1 o2 o3 o4 o5 o6 o7 o8 : Option Value} {t : List (Option Value)} {st : List Value} {x : Value} (d : Dc cc pc (.aload 9) 2 pc') (hx : zrf x = true) (k : V w mi cc L cb sb h pc' (o0 :: o1 :: o2 :: o3 :: o4 :: o5 :: o6 :: o7 :: o8 :: some x :: t) (x :: st) Q) : V w mi cc L cb sb h pc (o0 :: o1 :: o2 :: o3 :: o4 :: o5 :: o6 :: o7 :: o8 :: some x :: t) st Q := by
  obtain ⟨d, rfl⟩ := d
  cases x with
  | ref a => exact V_pure (fun p l e R s m args below meth c H locs cells slots lsA Q' hx hb hl F kk => lv_aload hx hb d (hl.at (i := 9) rfl) kk) k
  | null => exact V_pure (fun p l e R s m args below meth c H locs cells slots lsA Q' hx hb hl F kk => lv_aloadN hx hb d (hl.at (i := 9) rfl) kk) k
  | _ => exact absurd hx (by simp [zrf])
theorem V_istore9 {w : Wd} {mi : Mi} {cc : ByteArray} {L cb sb : Nat} {h : Hp} {pc pc' : Nat} {Q : Outcome → Hp → Prop} {o0 o1 o2 o3 o4 o5 o6 o7 o8 : Option Value} {o : Option Value} {t : List (Option Value)} {st : List Value} {x : Int32} (hp : znl o8 = true) (d : Dc cc pc (.istore 9) 2 pc') (hn : Nat.blt 9 mi.2.1 = true) (k : V w mi cc L cb sb h pc' (o0 :: o1 :: o2 :: o3 :: o4 :: o5 :: o6 :: o7 :: o8 :: some (.int x) :: t) st Q) : V w mi cc L cb sb h pc (o0 :: o1 :: o2 :: o3 :: o4 :: o5 :: o6 :: o7 :: o8 :: o :: t) (.int x :: st) Q := by
  obtain ⟨d, rfl⟩ := d
  intro p l e R s m args below meth c H locs cells slots lsA F a1 a2 a3 a4 a5 a6 hl
  refine lv_istore F.1 F.2.1 d hl (Nat.le_of_ble_eq_true hn) rfl (fun ls' hl' => k p l e R s m args below meth c H locs cells slots ls' F a1 a2 a3 a4 a5 a6 (zls.set1 (lsA := lsA) hl' (fun j u hj => zstore 9 (o0 :: o1 :: o2 :: o3 :: o4 :: o5 :: o6 :: o7 :: o8 :: o :: t) j u (.int x) rfl hj (fun q3 q1 y q2 => by
      obtain rfl : q3 = 8 := by omega
      have q4 : o8 = some y := Option.some.inj q2
      rw [← q4]; exact hp))))
theorem V_astoreR9 {w : Wd} {mi : Mi} {cc : ByteArray} {L cb sb : Nat} {h : Hp} {pc pc' : Nat} {Q : Outcome → Hp → Prop} {o0 o1 o2 o3 o4 o5 o6 o7 o8 : Option Value} {o : Option Value} {t : List (Option Value)} {st : List Value} {x : Nat} (hp : znl o8 = true) (d : Dc cc pc (.astore 9) 2 pc') (hn : Nat.blt 9 mi.2.1 = true) (k : V w mi cc L cb sb h pc' (o0 :: o1 :: o2 :: o3 :: o4 :: o5 :: o6 :: o7 :: o8 :: some (.ref x) :: t) st Q) : V w mi cc L cb sb h pc (o0 :: o1 :: o2 :: o3 :: o4 :: o5 :: o6 :: o7 :: o8 :: o :: t) (.ref x :: st) Q := by
  obtain ⟨d, rfl⟩ := d
  intro p l e R s m args below meth c H locs cells slots lsA F a1 a2 a3 a4 a5 a6 hl
  refine lv_astore F.1 F.2.1 d hl (Nat.le_of_ble_eq_true hn) rfl (fun ls' hl' => k p l e R s m args below meth c H locs cells slots ls' F a1 a2 a3 a4 a5 a6 (zls.set1 (lsA := lsA) hl' (fun j u hj => zstore 9 (o0 :: o1 :: o2 :: o3 :: o4 :: o5 :: o6 :: o7 :: o8 :: o :: t) j u (.ref x) rfl hj (fun q3 q1 y q2 => by
      obtain rfl : q3 = 8 := by omega
      have q4 : o8 = some y := Option.some.inj q2
      rw [← q4]; exact hp))))
theorem V_astoreN9 {w : Wd} {mi : Mi} {cc : ByteArray} {L cb sb : Nat} {h : Hp} {pc pc' : Nat} {Q : Outcome → Hp → Prop} {o0 o1 o2 o3 o4 o5 o6 o7 o8 : Option Value} {o : Option Value} {t : List (Option Value)} {st : List Value} (hp : znl o8 = true) (d : Dc cc pc (.astore 9) 2 pc') (hn : Nat.blt 9 mi.2.1 = true) (k : V w mi cc L cb sb h pc' (o0 :: o1 :: o2 :: o3 :: o4 :: o5 :: o6 :: o7 :: o8 :: some .null :: t) st Q) : V w mi cc L cb sb h pc (o0 :: o1 :: o2 :: o3 :: o4 :: o5 :: o6 :: o7 :: o8 :: o :: t) (.null :: st) Q := by
  obtain ⟨d, rfl⟩ := d
  intro p l e R s m args below meth c H locs cells slots lsA F a1 a2 a3 a4 a5 a6 hl
  refine lv_astoreN F.1 F.2.1 d hl (Nat.le_of_ble_eq_true hn) rfl (fun ls' hl' => k p l e R s m args below meth c H locs cells slots ls' F a1 a2 a3 a4 a5 a6 (zls.set1 (lsA := lsA) hl' (fun j u hj => zstore 9 (o0 :: o1 :: o2 :: o3 :: o4 :: o5 :: o6 :: o7 :: o8 :: o :: t) j u .null rfl hj (fun q3 q1 y q2 => by
      obtain rfl : q3 = 8 := by omega
      have q4 : o8 = some y := Option.some.inj q2
      rw [← q4]; exact hp))))
theorem V_astore9 {w : Wd} {mi : Mi} {cc : ByteArray} {L cb sb : Nat} {h : Hp} {pc pc' : Nat} {Q : Outcome → Hp → Prop} {o0 o1 o2 o3 o4 o5 o6 o7 o8 : Option Value} {o : Option Value} {t : List (Option Value)} {st : List Value} {x : Value} (hp : znl o8 = true) (d : Dc cc pc (.astore 9) 2 pc') (hn : Nat.blt 9 mi.2.1 = true) (hx : zrf x = true) (k : V w mi cc L cb sb h pc' (o0 :: o1 :: o2 :: o3 :: o4 :: o5 :: o6 :: o7 :: o8 :: some x :: t) st Q) : V w mi cc L cb sb h pc (o0 :: o1 :: o2 :: o3 :: o4 :: o5 :: o6 :: o7 :: o8 :: o :: t) (x :: st) Q := by
  cases x with
  | ref a => exact V_astoreR9 hp d hn k
  | null => exact V_astoreN9 hp d hn k
  | _ => exact absurd hx (by simp [zrf])
theorem V_iinc9 {w : Wd} {mi : Mi} {cc : ByteArray} {L cb sb : Nat} {h : Hp} {pc pc' : Nat} {Q : Outcome → Hp → Prop} {o0 o1 o2 o3 o4 o5 o6 o7 o8 : Option Value} {t : List (Option Value)} {st : List Value} {x v : Int32} {n : Int} (hp : znl o8 = true) (d : Dc cc pc (.iinc 9 n) 3 pc') (hn : Nat.blt 9 mi.2.1 = true) (hv : Int32.ofInt n = v) (k : V w mi cc L cb sb h pc' (o0 :: o1 :: o2 :: o3 :: o4 :: o5 :: o6 :: o7 :: o8 :: some (.int (x + v)) :: t) st Q) : V w mi cc L cb sb h pc (o0 :: o1 :: o2 :: o3 :: o4 :: o5 :: o6 :: o7 :: o8 :: some (.int x) :: t) st Q := by
  obtain ⟨d, rfl⟩ := d
  subst hv
  intro p l e R s m args below meth c H locs cells slots lsA F a1 a2 a3 a4 a5 a6 hl
  obtain ⟨kq, hk⟩ := List.mem_iff_getElem?.mp (zP_mem (b := 0) (i := 9) (v := .int x) (ls := (o0 :: o1 :: o2 :: o3 :: o4 :: o5 :: o6 :: o7 :: o8 :: some (.int x) :: t)) |>.mpr ⟨9, rfl, rfl⟩)
  refine lv_iinc F.1 F.2.1 d hl hk rfl (Nat.le_of_ble_eq_true hn) rfl (fun ls' hl' => k p l e R s m args below meth c H locs cells slots ls' F a1 a2 a3 a4 a5 a6 (zls.set1 (lsA := lsA) hl' (fun j u hj => zstore 9 (o0 :: o1 :: o2 :: o3 :: o4 :: o5 :: o6 :: o7 :: o8 :: some (.int x) :: t) j u (.int (x + Int32.ofInt n)) rfl hj (fun q3 q1 y q2 => by
      obtain rfl : q3 = 8 := by omega
      have q4 : o8 = some y := Option.some.inj q2
      rw [← q4]; exact hp))))
theorem V_iload10 {w : Wd} {mi : Mi} {cc : ByteArray} {L cb sb : Nat} {h : Hp} {pc pc' : Nat} {Q : Outcome → Hp → Prop} {o0 o1 o2 o3 o4 o5 o6 o7 o8 o9 : Option Value} {t : List (Option Value)} {st : List Value} {x : Int32} (d : Dc cc pc (.iload 10) 2 pc') (k : V w mi cc L cb sb h pc' (o0 :: o1 :: o2 :: o3 :: o4 :: o5 :: o6 :: o7 :: o8 :: o9 :: some (.int x) :: t) (.int x :: st) Q) : V w mi cc L cb sb h pc (o0 :: o1 :: o2 :: o3 :: o4 :: o5 :: o6 :: o7 :: o8 :: o9 :: some (.int x) :: t) st Q := by
  obtain ⟨d, rfl⟩ := d
  exact V_pure (fun p l e R s m args below meth c H locs cells slots lsA Q' hx hb hl F kk => lv_iload hx hb d (hl.at (i := 10) rfl) kk) k
theorem V_lload10 {w : Wd} {mi : Mi} {cc : ByteArray} {L cb sb : Nat} {h : Hp} {pc pc' : Nat} {Q : Outcome → Hp → Prop} {o0 o1 o2 o3 o4 o5 o6 o7 o8 o9 : Option Value} {t : List (Option Value)} {st : List Value} {x : Int64} (d : Dc cc pc (.lload 10) 2 pc') (k : V w mi cc L cb sb h pc' (o0 :: o1 :: o2 :: o3 :: o4 :: o5 :: o6 :: o7 :: o8 :: o9 :: some (.long x) :: t) (.long x :: st) Q) : V w mi cc L cb sb h pc (o0 :: o1 :: o2 :: o3 :: o4 :: o5 :: o6 :: o7 :: o8 :: o9 :: some (.long x) :: t) st Q := by
  obtain ⟨d, rfl⟩ := d
  exact V_pure (fun p l e R s m args below meth c H locs cells slots lsA Q' hx hb hl F kk => lv_lload hx hb d (hl.at (i := 10) rfl) kk) k
theorem V_aload10 {w : Wd} {mi : Mi} {cc : ByteArray} {L cb sb : Nat} {h : Hp} {pc pc' : Nat} {Q : Outcome → Hp → Prop} {o0 o1 o2 o3 o4 o5 o6 o7 o8 o9 : Option Value} {t : List (Option Value)} {st : List Value} {x : Value} (d : Dc cc pc (.aload 10) 2 pc') (hx : zrf x = true) (k : V w mi cc L cb sb h pc' (o0 :: o1 :: o2 :: o3 :: o4 :: o5 :: o6 :: o7 :: o8 :: o9 :: some x :: t) (x :: st) Q) : V w mi cc L cb sb h pc (o0 :: o1 :: o2 :: o3 :: o4 :: o5 :: o6 :: o7 :: o8 :: o9 :: some x :: t) st Q := by
  obtain ⟨d, rfl⟩ := d
  cases x with
  | ref a => exact V_pure (fun p l e R s m args below meth c H locs cells slots lsA Q' hx hb hl F kk => lv_aload hx hb d (hl.at (i := 10) rfl) kk) k
  | null => exact V_pure (fun p l e R s m args below meth c H locs cells slots lsA Q' hx hb hl F kk => lv_aloadN hx hb d (hl.at (i := 10) rfl) kk) k
  | _ => exact absurd hx (by simp [zrf])
theorem V_istore10 {w : Wd} {mi : Mi} {cc : ByteArray} {L cb sb : Nat} {h : Hp} {pc pc' : Nat} {Q : Outcome → Hp → Prop} {o0 o1 o2 o3 o4 o5 o6 o7 o8 o9 : Option Value} {o : Option Value} {t : List (Option Value)} {st : List Value} {x : Int32} (hp : znl o9 = true) (d : Dc cc pc (.istore 10) 2 pc') (hn : Nat.blt 10 mi.2.1 = true) (k : V w mi cc L cb sb h pc' (o0 :: o1 :: o2 :: o3 :: o4 :: o5 :: o6 :: o7 :: o8 :: o9 :: some (.int x) :: t) st Q) : V w mi cc L cb sb h pc (o0 :: o1 :: o2 :: o3 :: o4 :: o5 :: o6 :: o7 :: o8 :: o9 :: o :: t) (.int x :: st) Q := by
  obtain ⟨d, rfl⟩ := d
  intro p l e R s m args below meth c H locs cells slots lsA F a1 a2 a3 a4 a5 a6 hl
  refine lv_istore F.1 F.2.1 d hl (Nat.le_of_ble_eq_true hn) rfl (fun ls' hl' => k p l e R s m args below meth c H locs cells slots ls' F a1 a2 a3 a4 a5 a6 (zls.set1 (lsA := lsA) hl' (fun j u hj => zstore 10 (o0 :: o1 :: o2 :: o3 :: o4 :: o5 :: o6 :: o7 :: o8 :: o9 :: o :: t) j u (.int x) rfl hj (fun q3 q1 y q2 => by
      obtain rfl : q3 = 9 := by omega
      have q4 : o9 = some y := Option.some.inj q2
      rw [← q4]; exact hp))))
theorem V_astoreR10 {w : Wd} {mi : Mi} {cc : ByteArray} {L cb sb : Nat} {h : Hp} {pc pc' : Nat} {Q : Outcome → Hp → Prop} {o0 o1 o2 o3 o4 o5 o6 o7 o8 o9 : Option Value} {o : Option Value} {t : List (Option Value)} {st : List Value} {x : Nat} (hp : znl o9 = true) (d : Dc cc pc (.astore 10) 2 pc') (hn : Nat.blt 10 mi.2.1 = true) (k : V w mi cc L cb sb h pc' (o0 :: o1 :: o2 :: o3 :: o4 :: o5 :: o6 :: o7 :: o8 :: o9 :: some (.ref x) :: t) st Q) : V w mi cc L cb sb h pc (o0 :: o1 :: o2 :: o3 :: o4 :: o5 :: o6 :: o7 :: o8 :: o9 :: o :: t) (.ref x :: st) Q := by
  obtain ⟨d, rfl⟩ := d
  intro p l e R s m args below meth c H locs cells slots lsA F a1 a2 a3 a4 a5 a6 hl
  refine lv_astore F.1 F.2.1 d hl (Nat.le_of_ble_eq_true hn) rfl (fun ls' hl' => k p l e R s m args below meth c H locs cells slots ls' F a1 a2 a3 a4 a5 a6 (zls.set1 (lsA := lsA) hl' (fun j u hj => zstore 10 (o0 :: o1 :: o2 :: o3 :: o4 :: o5 :: o6 :: o7 :: o8 :: o9 :: o :: t) j u (.ref x) rfl hj (fun q3 q1 y q2 => by
      obtain rfl : q3 = 9 := by omega
      have q4 : o9 = some y := Option.some.inj q2
      rw [← q4]; exact hp))))
theorem V_astoreN10 {w : Wd} {mi : Mi} {cc : ByteArray} {L cb sb : Nat} {h : Hp} {pc pc' : Nat} {Q : Outcome → Hp → Prop} {o0 o1 o2 o3 o4 o5 o6 o7 o8 o9 : Option Value} {o : Option Value} {t : List (Option Value)} {st : List Value} (hp : znl o9 = true) (d : Dc cc pc (.astore 10) 2 pc') (hn : Nat.blt 10 mi.2.1 = true) (k : V w mi cc L cb sb h pc' (o0 :: o1 :: o2 :: o3 :: o4 :: o5 :: o6 :: o7 :: o8 :: o9 :: some .null :: t) st Q) : V w mi cc L cb sb h pc (o0 :: o1 :: o2 :: o3 :: o4 :: o5 :: o6 :: o7 :: o8 :: o9 :: o :: t) (.null :: st) Q := by
  obtain ⟨d, rfl⟩ := d
  intro p l e R s m args below meth c H locs cells slots lsA F a1 a2 a3 a4 a5 a6 hl
  refine lv_astoreN F.1 F.2.1 d hl (Nat.le_of_ble_eq_true hn) rfl (fun ls' hl' => k p l e R s m args below meth c H locs cells slots ls' F a1 a2 a3 a4 a5 a6 (zls.set1 (lsA := lsA) hl' (fun j u hj => zstore 10 (o0 :: o1 :: o2 :: o3 :: o4 :: o5 :: o6 :: o7 :: o8 :: o9 :: o :: t) j u .null rfl hj (fun q3 q1 y q2 => by
      obtain rfl : q3 = 9 := by omega
      have q4 : o9 = some y := Option.some.inj q2
      rw [← q4]; exact hp))))
theorem V_astore10 {w : Wd} {mi : Mi} {cc : ByteArray} {L cb sb : Nat} {h : Hp} {pc pc' : Nat} {Q : Outcome → Hp → Prop} {o0 o1 o2 o3 o4 o5 o6 o7 o8 o9 : Option Value} {o : Option Value} {t : List (Option Value)} {st : List Value} {x : Value} (hp : znl o9 = true) (d : Dc cc pc (.astore 10) 2 pc') (hn : Nat.blt 10 mi.2.1 = true) (hx : zrf x = true) (k : V w mi cc L cb sb h pc' (o0 :: o1 :: o2 :: o3 :: o4 :: o5 :: o6 :: o7 :: o8 :: o9 :: some x :: t) st Q) : V w mi cc L cb sb h pc (o0 :: o1 :: o2 :: o3 :: o4 :: o5 :: o6 :: o7 :: o8 :: o9 :: o :: t) (x :: st) Q := by
  cases x with
  | ref a => exact V_astoreR10 hp d hn k
  | null => exact V_astoreN10 hp d hn k
  | _ => exact absurd hx (by simp [zrf])
theorem V_iinc10 {w : Wd} {mi : Mi} {cc : ByteArray} {L cb sb : Nat} {h : Hp} {pc pc' : Nat} {Q : Outcome → Hp → Prop} {o0 o1 o2 o3 o4 o5 o6 o7 o8 o9 : Option Value} {t : List (Option Value)} {st : List Value} {x v : Int32} {n : Int} (hp : znl o9 = true) (d : Dc cc pc (.iinc 10 n) 3 pc') (hn : Nat.blt 10 mi.2.1 = true) (hv : Int32.ofInt n = v) (k : V w mi cc L cb sb h pc' (o0 :: o1 :: o2 :: o3 :: o4 :: o5 :: o6 :: o7 :: o8 :: o9 :: some (.int (x + v)) :: t) st Q) : V w mi cc L cb sb h pc (o0 :: o1 :: o2 :: o3 :: o4 :: o5 :: o6 :: o7 :: o8 :: o9 :: some (.int x) :: t) st Q := by
  obtain ⟨d, rfl⟩ := d
  subst hv
  intro p l e R s m args below meth c H locs cells slots lsA F a1 a2 a3 a4 a5 a6 hl
  obtain ⟨kq, hk⟩ := List.mem_iff_getElem?.mp (zP_mem (b := 0) (i := 10) (v := .int x) (ls := (o0 :: o1 :: o2 :: o3 :: o4 :: o5 :: o6 :: o7 :: o8 :: o9 :: some (.int x) :: t)) |>.mpr ⟨10, rfl, rfl⟩)
  refine lv_iinc F.1 F.2.1 d hl hk rfl (Nat.le_of_ble_eq_true hn) rfl (fun ls' hl' => k p l e R s m args below meth c H locs cells slots ls' F a1 a2 a3 a4 a5 a6 (zls.set1 (lsA := lsA) hl' (fun j u hj => zstore 10 (o0 :: o1 :: o2 :: o3 :: o4 :: o5 :: o6 :: o7 :: o8 :: o9 :: some (.int x) :: t) j u (.int (x + Int32.ofInt n)) rfl hj (fun q3 q1 y q2 => by
      obtain rfl : q3 = 9 := by omega
      have q4 : o9 = some y := Option.some.inj q2
      rw [← q4]; exact hp))))
theorem V_iload11 {w : Wd} {mi : Mi} {cc : ByteArray} {L cb sb : Nat} {h : Hp} {pc pc' : Nat} {Q : Outcome → Hp → Prop} {o0 o1 o2 o3 o4 o5 o6 o7 o8 o9 o10 : Option Value} {t : List (Option Value)} {st : List Value} {x : Int32} (d : Dc cc pc (.iload 11) 2 pc') (k : V w mi cc L cb sb h pc' (o0 :: o1 :: o2 :: o3 :: o4 :: o5 :: o6 :: o7 :: o8 :: o9 :: o10 :: some (.int x) :: t) (.int x :: st) Q) : V w mi cc L cb sb h pc (o0 :: o1 :: o2 :: o3 :: o4 :: o5 :: o6 :: o7 :: o8 :: o9 :: o10 :: some (.int x) :: t) st Q := by
  obtain ⟨d, rfl⟩ := d
  exact V_pure (fun p l e R s m args below meth c H locs cells slots lsA Q' hx hb hl F kk => lv_iload hx hb d (hl.at (i := 11) rfl) kk) k
theorem V_lload11 {w : Wd} {mi : Mi} {cc : ByteArray} {L cb sb : Nat} {h : Hp} {pc pc' : Nat} {Q : Outcome → Hp → Prop} {o0 o1 o2 o3 o4 o5 o6 o7 o8 o9 o10 : Option Value} {t : List (Option Value)} {st : List Value} {x : Int64} (d : Dc cc pc (.lload 11) 2 pc') (k : V w mi cc L cb sb h pc' (o0 :: o1 :: o2 :: o3 :: o4 :: o5 :: o6 :: o7 :: o8 :: o9 :: o10 :: some (.long x) :: t) (.long x :: st) Q) : V w mi cc L cb sb h pc (o0 :: o1 :: o2 :: o3 :: o4 :: o5 :: o6 :: o7 :: o8 :: o9 :: o10 :: some (.long x) :: t) st Q := by
  obtain ⟨d, rfl⟩ := d
  exact V_pure (fun p l e R s m args below meth c H locs cells slots lsA Q' hx hb hl F kk => lv_lload hx hb d (hl.at (i := 11) rfl) kk) k
theorem V_aload11 {w : Wd} {mi : Mi} {cc : ByteArray} {L cb sb : Nat} {h : Hp} {pc pc' : Nat} {Q : Outcome → Hp → Prop} {o0 o1 o2 o3 o4 o5 o6 o7 o8 o9 o10 : Option Value} {t : List (Option Value)} {st : List Value} {x : Value} (d : Dc cc pc (.aload 11) 2 pc') (hx : zrf x = true) (k : V w mi cc L cb sb h pc' (o0 :: o1 :: o2 :: o3 :: o4 :: o5 :: o6 :: o7 :: o8 :: o9 :: o10 :: some x :: t) (x :: st) Q) : V w mi cc L cb sb h pc (o0 :: o1 :: o2 :: o3 :: o4 :: o5 :: o6 :: o7 :: o8 :: o9 :: o10 :: some x :: t) st Q := by
  obtain ⟨d, rfl⟩ := d
  cases x with
  | ref a => exact V_pure (fun p l e R s m args below meth c H locs cells slots lsA Q' hx hb hl F kk => lv_aload hx hb d (hl.at (i := 11) rfl) kk) k
  | null => exact V_pure (fun p l e R s m args below meth c H locs cells slots lsA Q' hx hb hl F kk => lv_aloadN hx hb d (hl.at (i := 11) rfl) kk) k
  | _ => exact absurd hx (by simp [zrf])
theorem V_istore11 {w : Wd} {mi : Mi} {cc : ByteArray} {L cb sb : Nat} {h : Hp} {pc pc' : Nat} {Q : Outcome → Hp → Prop} {o0 o1 o2 o3 o4 o5 o6 o7 o8 o9 o10 : Option Value} {o : Option Value} {t : List (Option Value)} {st : List Value} {x : Int32} (hp : znl o10 = true) (d : Dc cc pc (.istore 11) 2 pc') (hn : Nat.blt 11 mi.2.1 = true) (k : V w mi cc L cb sb h pc' (o0 :: o1 :: o2 :: o3 :: o4 :: o5 :: o6 :: o7 :: o8 :: o9 :: o10 :: some (.int x) :: t) st Q) : V w mi cc L cb sb h pc (o0 :: o1 :: o2 :: o3 :: o4 :: o5 :: o6 :: o7 :: o8 :: o9 :: o10 :: o :: t) (.int x :: st) Q := by
  obtain ⟨d, rfl⟩ := d
  intro p l e R s m args below meth c H locs cells slots lsA F a1 a2 a3 a4 a5 a6 hl
  refine lv_istore F.1 F.2.1 d hl (Nat.le_of_ble_eq_true hn) rfl (fun ls' hl' => k p l e R s m args below meth c H locs cells slots ls' F a1 a2 a3 a4 a5 a6 (zls.set1 (lsA := lsA) hl' (fun j u hj => zstore 11 (o0 :: o1 :: o2 :: o3 :: o4 :: o5 :: o6 :: o7 :: o8 :: o9 :: o10 :: o :: t) j u (.int x) rfl hj (fun q3 q1 y q2 => by
      obtain rfl : q3 = 10 := by omega
      have q4 : o10 = some y := Option.some.inj q2
      rw [← q4]; exact hp))))
theorem V_astoreR11 {w : Wd} {mi : Mi} {cc : ByteArray} {L cb sb : Nat} {h : Hp} {pc pc' : Nat} {Q : Outcome → Hp → Prop} {o0 o1 o2 o3 o4 o5 o6 o7 o8 o9 o10 : Option Value} {o : Option Value} {t : List (Option Value)} {st : List Value} {x : Nat} (hp : znl o10 = true) (d : Dc cc pc (.astore 11) 2 pc') (hn : Nat.blt 11 mi.2.1 = true) (k : V w mi cc L cb sb h pc' (o0 :: o1 :: o2 :: o3 :: o4 :: o5 :: o6 :: o7 :: o8 :: o9 :: o10 :: some (.ref x) :: t) st Q) : V w mi cc L cb sb h pc (o0 :: o1 :: o2 :: o3 :: o4 :: o5 :: o6 :: o7 :: o8 :: o9 :: o10 :: o :: t) (.ref x :: st) Q := by
  obtain ⟨d, rfl⟩ := d
  intro p l e R s m args below meth c H locs cells slots lsA F a1 a2 a3 a4 a5 a6 hl
  refine lv_astore F.1 F.2.1 d hl (Nat.le_of_ble_eq_true hn) rfl (fun ls' hl' => k p l e R s m args below meth c H locs cells slots ls' F a1 a2 a3 a4 a5 a6 (zls.set1 (lsA := lsA) hl' (fun j u hj => zstore 11 (o0 :: o1 :: o2 :: o3 :: o4 :: o5 :: o6 :: o7 :: o8 :: o9 :: o10 :: o :: t) j u (.ref x) rfl hj (fun q3 q1 y q2 => by
      obtain rfl : q3 = 10 := by omega
      have q4 : o10 = some y := Option.some.inj q2
      rw [← q4]; exact hp))))
theorem V_astoreN11 {w : Wd} {mi : Mi} {cc : ByteArray} {L cb sb : Nat} {h : Hp} {pc pc' : Nat} {Q : Outcome → Hp → Prop} {o0 o1 o2 o3 o4 o5 o6 o7 o8 o9 o10 : Option Value} {o : Option Value} {t : List (Option Value)} {st : List Value} (hp : znl o10 = true) (d : Dc cc pc (.astore 11) 2 pc') (hn : Nat.blt 11 mi.2.1 = true) (k : V w mi cc L cb sb h pc' (o0 :: o1 :: o2 :: o3 :: o4 :: o5 :: o6 :: o7 :: o8 :: o9 :: o10 :: some .null :: t) st Q) : V w mi cc L cb sb h pc (o0 :: o1 :: o2 :: o3 :: o4 :: o5 :: o6 :: o7 :: o8 :: o9 :: o10 :: o :: t) (.null :: st) Q := by
  obtain ⟨d, rfl⟩ := d
  intro p l e R s m args below meth c H locs cells slots lsA F a1 a2 a3 a4 a5 a6 hl
  refine lv_astoreN F.1 F.2.1 d hl (Nat.le_of_ble_eq_true hn) rfl (fun ls' hl' => k p l e R s m args below meth c H locs cells slots ls' F a1 a2 a3 a4 a5 a6 (zls.set1 (lsA := lsA) hl' (fun j u hj => zstore 11 (o0 :: o1 :: o2 :: o3 :: o4 :: o5 :: o6 :: o7 :: o8 :: o9 :: o10 :: o :: t) j u .null rfl hj (fun q3 q1 y q2 => by
      obtain rfl : q3 = 10 := by omega
      have q4 : o10 = some y := Option.some.inj q2
      rw [← q4]; exact hp))))
theorem V_astore11 {w : Wd} {mi : Mi} {cc : ByteArray} {L cb sb : Nat} {h : Hp} {pc pc' : Nat} {Q : Outcome → Hp → Prop} {o0 o1 o2 o3 o4 o5 o6 o7 o8 o9 o10 : Option Value} {o : Option Value} {t : List (Option Value)} {st : List Value} {x : Value} (hp : znl o10 = true) (d : Dc cc pc (.astore 11) 2 pc') (hn : Nat.blt 11 mi.2.1 = true) (hx : zrf x = true) (k : V w mi cc L cb sb h pc' (o0 :: o1 :: o2 :: o3 :: o4 :: o5 :: o6 :: o7 :: o8 :: o9 :: o10 :: some x :: t) st Q) : V w mi cc L cb sb h pc (o0 :: o1 :: o2 :: o3 :: o4 :: o5 :: o6 :: o7 :: o8 :: o9 :: o10 :: o :: t) (x :: st) Q := by
  cases x with
  | ref a => exact V_astoreR11 hp d hn k
  | null => exact V_astoreN11 hp d hn k
  | _ => exact absurd hx (by simp [zrf])
theorem V_iinc11 {w : Wd} {mi : Mi} {cc : ByteArray} {L cb sb : Nat} {h : Hp} {pc pc' : Nat} {Q : Outcome → Hp → Prop} {o0 o1 o2 o3 o4 o5 o6 o7 o8 o9 o10 : Option Value} {t : List (Option Value)} {st : List Value} {x v : Int32} {n : Int} (hp : znl o10 = true) (d : Dc cc pc (.iinc 11 n) 3 pc') (hn : Nat.blt 11 mi.2.1 = true) (hv : Int32.ofInt n = v) (k : V w mi cc L cb sb h pc' (o0 :: o1 :: o2 :: o3 :: o4 :: o5 :: o6 :: o7 :: o8 :: o9 :: o10 :: some (.int (x + v)) :: t) st Q) : V w mi cc L cb sb h pc (o0 :: o1 :: o2 :: o3 :: o4 :: o5 :: o6 :: o7 :: o8 :: o9 :: o10 :: some (.int x) :: t) st Q := by
  obtain ⟨d, rfl⟩ := d
  subst hv
  intro p l e R s m args below meth c H locs cells slots lsA F a1 a2 a3 a4 a5 a6 hl
  obtain ⟨kq, hk⟩ := List.mem_iff_getElem?.mp (zP_mem (b := 0) (i := 11) (v := .int x) (ls := (o0 :: o1 :: o2 :: o3 :: o4 :: o5 :: o6 :: o7 :: o8 :: o9 :: o10 :: some (.int x) :: t)) |>.mpr ⟨11, rfl, rfl⟩)
  refine lv_iinc F.1 F.2.1 d hl hk rfl (Nat.le_of_ble_eq_true hn) rfl (fun ls' hl' => k p l e R s m args below meth c H locs cells slots ls' F a1 a2 a3 a4 a5 a6 (zls.set1 (lsA := lsA) hl' (fun j u hj => zstore 11 (o0 :: o1 :: o2 :: o3 :: o4 :: o5 :: o6 :: o7 :: o8 :: o9 :: o10 :: some (.int x) :: t) j u (.int (x + Int32.ofInt n)) rfl hj (fun q3 q1 y q2 => by
      obtain rfl : q3 = 10 := by omega
      have q4 : o10 = some y := Option.some.inj q2
      rw [← q4]; exact hp))))
theorem V_iload12 {w : Wd} {mi : Mi} {cc : ByteArray} {L cb sb : Nat} {h : Hp} {pc pc' : Nat} {Q : Outcome → Hp → Prop} {o0 o1 o2 o3 o4 o5 o6 o7 o8 o9 o10 o11 : Option Value} {t : List (Option Value)} {st : List Value} {x : Int32} (d : Dc cc pc (.iload 12) 2 pc') (k : V w mi cc L cb sb h pc' (o0 :: o1 :: o2 :: o3 :: o4 :: o5 :: o6 :: o7 :: o8 :: o9 :: o10 :: o11 :: some (.int x) :: t) (.int x :: st) Q) : V w mi cc L cb sb h pc (o0 :: o1 :: o2 :: o3 :: o4 :: o5 :: o6 :: o7 :: o8 :: o9 :: o10 :: o11 :: some (.int x) :: t) st Q := by
  obtain ⟨d, rfl⟩ := d
  exact V_pure (fun p l e R s m args below meth c H locs cells slots lsA Q' hx hb hl F kk => lv_iload hx hb d (hl.at (i := 12) rfl) kk) k
theorem V_lload12 {w : Wd} {mi : Mi} {cc : ByteArray} {L cb sb : Nat} {h : Hp} {pc pc' : Nat} {Q : Outcome → Hp → Prop} {o0 o1 o2 o3 o4 o5 o6 o7 o8 o9 o10 o11 : Option Value} {t : List (Option Value)} {st : List Value} {x : Int64} (d : Dc cc pc (.lload 12) 2 pc') (k : V w mi cc L cb sb h pc' (o0 :: o1 :: o2 :: o3 :: o4 :: o5 :: o6 :: o7 :: o8 :: o9 :: o10 :: o11 :: some (.long x) :: t) (.long x :: st) Q) : V w mi cc L cb sb h pc (o0 :: o1 :: o2 :: o3 :: o4 :: o5 :: o6 :: o7 :: o8 :: o9 :: o10 :: o11 :: some (.long x) :: t) st Q := by
  obtain ⟨d, rfl⟩ := d
  exact V_pure (fun p l e R s m args below meth c H locs cells slots lsA Q' hx hb hl F kk => lv_lload hx hb d (hl.at (i := 12) rfl) kk) k
theorem V_aload12 {w : Wd} {mi : Mi} {cc : ByteArray} {L cb sb : Nat} {h : Hp} {pc pc' : Nat} {Q : Outcome → Hp → Prop} {o0 o1 o2 o3 o4 o5 o6 o7 o8 o9 o10 o11 : Option Value} {t : List (Option Value)} {st : List Value} {x : Value} (d : Dc cc pc (.aload 12) 2 pc') (hx : zrf x = true) (k : V w mi cc L cb sb h pc' (o0 :: o1 :: o2 :: o3 :: o4 :: o5 :: o6 :: o7 :: o8 :: o9 :: o10 :: o11 :: some x :: t) (x :: st) Q) : V w mi cc L cb sb h pc (o0 :: o1 :: o2 :: o3 :: o4 :: o5 :: o6 :: o7 :: o8 :: o9 :: o10 :: o11 :: some x :: t) st Q := by
  obtain ⟨d, rfl⟩ := d
  cases x with
  | ref a => exact V_pure (fun p l e R s m args below meth c H locs cells slots lsA Q' hx hb hl F kk => lv_aload hx hb d (hl.at (i := 12) rfl) kk) k
  | null => exact V_pure (fun p l e R s m args below meth c H locs cells slots lsA Q' hx hb hl F kk => lv_aloadN hx hb d (hl.at (i := 12) rfl) kk) k
  | _ => exact absurd hx (by simp [zrf])
theorem V_istore12 {w : Wd} {mi : Mi} {cc : ByteArray} {L cb sb : Nat} {h : Hp} {pc pc' : Nat} {Q : Outcome → Hp → Prop} {o0 o1 o2 o3 o4 o5 o6 o7 o8 o9 o10 o11 : Option Value} {o : Option Value} {t : List (Option Value)} {st : List Value} {x : Int32} (hp : znl o11 = true) (d : Dc cc pc (.istore 12) 2 pc') (hn : Nat.blt 12 mi.2.1 = true) (k : V w mi cc L cb sb h pc' (o0 :: o1 :: o2 :: o3 :: o4 :: o5 :: o6 :: o7 :: o8 :: o9 :: o10 :: o11 :: some (.int x) :: t) st Q) : V w mi cc L cb sb h pc (o0 :: o1 :: o2 :: o3 :: o4 :: o5 :: o6 :: o7 :: o8 :: o9 :: o10 :: o11 :: o :: t) (.int x :: st) Q := by
  obtain ⟨d, rfl⟩ := d
  intro p l e R s m args below meth c H locs cells slots lsA F a1 a2 a3 a4 a5 a6 hl
  refine lv_istore F.1 F.2.1 d hl (Nat.le_of_ble_eq_true hn) rfl (fun ls' hl' => k p l e R s m args below meth c H locs cells slots ls' F a1 a2 a3 a4 a5 a6 (zls.set1 (lsA := lsA) hl' (fun j u hj => zstore 12 (o0 :: o1 :: o2 :: o3 :: o4 :: o5 :: o6 :: o7 :: o8 :: o9 :: o10 :: o11 :: o :: t) j u (.int x) rfl hj (fun q3 q1 y q2 => by
      obtain rfl : q3 = 11 := by omega
      have q4 : o11 = some y := Option.some.inj q2
      rw [← q4]; exact hp))))
theorem V_astoreR12 {w : Wd} {mi : Mi} {cc : ByteArray} {L cb sb : Nat} {h : Hp} {pc pc' : Nat} {Q : Outcome → Hp → Prop} {o0 o1 o2 o3 o4 o5 o6 o7 o8 o9 o10 o11 : Option Value} {o : Option Value} {t : List (Option Value)} {st : List Value} {x : Nat} (hp : znl o11 = true) (d : Dc cc pc (.astore 12) 2 pc') (hn : Nat.blt 12 mi.2.1 = true) (k : V w mi cc L cb sb h pc' (o0 :: o1 :: o2 :: o3 :: o4 :: o5 :: o6 :: o7 :: o8 :: o9 :: o10 :: o11 :: some (.ref x) :: t) st Q) : V w mi cc L cb sb h pc (o0 :: o1 :: o2 :: o3 :: o4 :: o5 :: o6 :: o7 :: o8 :: o9 :: o10 :: o11 :: o :: t) (.ref x :: st) Q := by
  obtain ⟨d, rfl⟩ := d
  intro p l e R s m args below meth c H locs cells slots lsA F a1 a2 a3 a4 a5 a6 hl
  refine lv_astore F.1 F.2.1 d hl (Nat.le_of_ble_eq_true hn) rfl (fun ls' hl' => k p l e R s m args below meth c H locs cells slots ls' F a1 a2 a3 a4 a5 a6 (zls.set1 (lsA := lsA) hl' (fun j u hj => zstore 12 (o0 :: o1 :: o2 :: o3 :: o4 :: o5 :: o6 :: o7 :: o8 :: o9 :: o10 :: o11 :: o :: t) j u (.ref x) rfl hj (fun q3 q1 y q2 => by
      obtain rfl : q3 = 11 := by omega
      have q4 : o11 = some y := Option.some.inj q2
      rw [← q4]; exact hp))))
theorem V_astoreN12 {w : Wd} {mi : Mi} {cc : ByteArray} {L cb sb : Nat} {h : Hp} {pc pc' : Nat} {Q : Outcome → Hp → Prop} {o0 o1 o2 o3 o4 o5 o6 o7 o8 o9 o10 o11 : Option Value} {o : Option Value} {t : List (Option Value)} {st : List Value} (hp : znl o11 = true) (d : Dc cc pc (.astore 12) 2 pc') (hn : Nat.blt 12 mi.2.1 = true) (k : V w mi cc L cb sb h pc' (o0 :: o1 :: o2 :: o3 :: o4 :: o5 :: o6 :: o7 :: o8 :: o9 :: o10 :: o11 :: some .null :: t) st Q) : V w mi cc L cb sb h pc (o0 :: o1 :: o2 :: o3 :: o4 :: o5 :: o6 :: o7 :: o8 :: o9 :: o10 :: o11 :: o :: t) (.null :: st) Q := by
  obtain ⟨d, rfl⟩ := d
  intro p l e R s m args below meth c H locs cells slots lsA F a1 a2 a3 a4 a5 a6 hl
  refine lv_astoreN F.1 F.2.1 d hl (Nat.le_of_ble_eq_true hn) rfl (fun ls' hl' => k p l e R s m args below meth c H locs cells slots ls' F a1 a2 a3 a4 a5 a6 (zls.set1 (lsA := lsA) hl' (fun j u hj => zstore 12 (o0 :: o1 :: o2 :: o3 :: o4 :: o5 :: o6 :: o7 :: o8 :: o9 :: o10 :: o11 :: o :: t) j u .null rfl hj (fun q3 q1 y q2 => by
      obtain rfl : q3 = 11 := by omega
      have q4 : o11 = some y := Option.some.inj q2
      rw [← q4]; exact hp))))
theorem V_astore12 {w : Wd} {mi : Mi} {cc : ByteArray} {L cb sb : Nat} {h : Hp} {pc pc' : Nat} {Q : Outcome → Hp → Prop} {o0 o1 o2 o3 o4 o5 o6 o7 o8 o9 o10 o11 : Option Value} {o : Option Value} {t : List (Option Value)} {st : List Value} {x : Value} (hp : znl o11 = true) (d : Dc cc pc (.astore 12) 2 pc') (hn : Nat.blt 12 mi.2.1 = true) (hx : zrf x = true) (k : V w mi cc L cb sb h pc' (o0 :: o1 :: o2 :: o3 :: o4 :: o5 :: o6 :: o7 :: o8 :: o9 :: o10 :: o11 :: some x :: t) st Q) : V w mi cc L cb sb h pc (o0 :: o1 :: o2 :: o3 :: o4 :: o5 :: o6 :: o7 :: o8 :: o9 :: o10 :: o11 :: o :: t) (x :: st) Q := by
  cases x with
  | ref a => exact V_astoreR12 hp d hn k
  | null => exact V_astoreN12 hp d hn k
  | _ => exact absurd hx (by simp [zrf])
theorem V_iinc12 {w : Wd} {mi : Mi} {cc : ByteArray} {L cb sb : Nat} {h : Hp} {pc pc' : Nat} {Q : Outcome → Hp → Prop} {o0 o1 o2 o3 o4 o5 o6 o7 o8 o9 o10 o11 : Option Value} {t : List (Option Value)} {st : List Value} {x v : Int32} {n : Int} (hp : znl o11 = true) (d : Dc cc pc (.iinc 12 n) 3 pc') (hn : Nat.blt 12 mi.2.1 = true) (hv : Int32.ofInt n = v) (k : V w mi cc L cb sb h pc' (o0 :: o1 :: o2 :: o3 :: o4 :: o5 :: o6 :: o7 :: o8 :: o9 :: o10 :: o11 :: some (.int (x + v)) :: t) st Q) : V w mi cc L cb sb h pc (o0 :: o1 :: o2 :: o3 :: o4 :: o5 :: o6 :: o7 :: o8 :: o9 :: o10 :: o11 :: some (.int x) :: t) st Q := by
  obtain ⟨d, rfl⟩ := d
  subst hv
  intro p l e R s m args below meth c H locs cells slots lsA F a1 a2 a3 a4 a5 a6 hl
  obtain ⟨kq, hk⟩ := List.mem_iff_getElem?.mp (zP_mem (b := 0) (i := 12) (v := .int x) (ls := (o0 :: o1 :: o2 :: o3 :: o4 :: o5 :: o6 :: o7 :: o8 :: o9 :: o10 :: o11 :: some (.int x) :: t)) |>.mpr ⟨12, rfl, rfl⟩)
  refine lv_iinc F.1 F.2.1 d hl hk rfl (Nat.le_of_ble_eq_true hn) rfl (fun ls' hl' => k p l e R s m args below meth c H locs cells slots ls' F a1 a2 a3 a4 a5 a6 (zls.set1 (lsA := lsA) hl' (fun j u hj => zstore 12 (o0 :: o1 :: o2 :: o3 :: o4 :: o5 :: o6 :: o7 :: o8 :: o9 :: o10 :: o11 :: some (.int x) :: t) j u (.int (x + Int32.ofInt n)) rfl hj (fun q3 q1 y q2 => by
      obtain rfl : q3 = 11 := by omega
      have q4 : o11 = some y := Option.some.inj q2
      rw [← q4]; exact hp))))
theorem V_iload13 {w : Wd} {mi : Mi} {cc : ByteArray} {L cb sb : Nat} {h : Hp} {pc pc' : Nat} {Q : Outcome → Hp → Prop} {o0 o1 o2 o3 o4 o5 o6 o7 o8 o9 o10 o11 o12 : Option Value} {t : List (Option Value)} {st : List Value} {x : Int32} (d : Dc cc pc (.iload 13) 2 pc') (k : V w mi cc L cb sb h pc' (o0 :: o1 :: o2 :: o3 :: o4 :: o5 :: o6 :: o7 :: o8 :: o9 :: o10 :: o11 :: o12 :: some (.int x) :: t) (.int x :: st) Q) : V w mi cc L cb sb h pc (o0 :: o1 :: o2 :: o3 :: o4 :: o5 :: o6 :: o7 :: o8 :: o9 :: o10 :: o11 :: o12 :: some (.int x) :: t) st Q := by
  obtain ⟨d, rfl⟩ := d
  exact V_pure (fun p l e R s m args below meth c H locs cells slots lsA Q' hx hb hl F kk => lv_iload hx hb d (hl.at (i := 13) rfl) kk) k
theorem V_lload13 {w : Wd} {mi : Mi} {cc : ByteArray} {L cb sb : Nat} {h : Hp} {pc pc' : Nat} {Q : Outcome → Hp → Prop} {o0 o1 o2 o3 o4 o5 o6 o7 o8 o9 o10 o11 o12 : Option Value} {t : List (Option Value)} {st : List Value} {x : Int64} (d : Dc cc pc (.lload 13) 2 pc') (k : V w mi cc L cb sb h pc' (o0 :: o1 :: o2 :: o3 :: o4 :: o5 :: o6 :: o7 :: o8 :: o9 :: o10 :: o11 :: o12 :: some (.long x) :: t) (.long x :: st) Q) : V w mi cc L cb sb h pc (o0 :: o1 :: o2 :: o3 :: o4 :: o5 :: o6 :: o7 :: o8 :: o9 :: o10 :: o11 :: o12 :: some (.long x) :: t) st Q := by
  obtain ⟨d, rfl⟩ := d
  exact V_pure (fun p l e R s m args below meth c H locs cells slots lsA Q' hx hb hl F kk => lv_lload hx hb d (hl.at (i := 13) rfl) kk) k
theorem V_aload13 {w : Wd} {mi : Mi} {cc : ByteArray} {L cb sb : Nat} {h : Hp} {pc pc' : Nat} {Q : Outcome → Hp → Prop} {o0 o1 o2 o3 o4 o5 o6 o7 o8 o9 o10 o11 o12 : Option Value} {t : List (Option Value)} {st : List Value} {x : Value} (d : Dc cc pc (.aload 13) 2 pc') (hx : zrf x = true) (k : V w mi cc L cb sb h pc' (o0 :: o1 :: o2 :: o3 :: o4 :: o5 :: o6 :: o7 :: o8 :: o9 :: o10 :: o11 :: o12 :: some x :: t) (x :: st) Q) : V w mi cc L cb sb h pc (o0 :: o1 :: o2 :: o3 :: o4 :: o5 :: o6 :: o7 :: o8 :: o9 :: o10 :: o11 :: o12 :: some x :: t) st Q := by
  obtain ⟨d, rfl⟩ := d
  cases x with
  | ref a => exact V_pure (fun p l e R s m args below meth c H locs cells slots lsA Q' hx hb hl F kk => lv_aload hx hb d (hl.at (i := 13) rfl) kk) k
  | null => exact V_pure (fun p l e R s m args below meth c H locs cells slots lsA Q' hx hb hl F kk => lv_aloadN hx hb d (hl.at (i := 13) rfl) kk) k
  | _ => exact absurd hx (by simp [zrf])
theorem V_istore13 {w : Wd} {mi : Mi} {cc : ByteArray} {L cb sb : Nat} {h : Hp} {pc pc' : Nat} {Q : Outcome → Hp → Prop} {o0 o1 o2 o3 o4 o5 o6 o7 o8 o9 o10 o11 o12 : Option Value} {o : Option Value} {t : List (Option Value)} {st : List Value} {x : Int32} (hp : znl o12 = true) (d : Dc cc pc (.istore 13) 2 pc') (hn : Nat.blt 13 mi.2.1 = true) (k : V w mi cc L cb sb h pc' (o0 :: o1 :: o2 :: o3 :: o4 :: o5 :: o6 :: o7 :: o8 :: o9 :: o10 :: o11 :: o12 :: some (.int x) :: t) st Q) : V w mi cc L cb sb h pc (o0 :: o1 :: o2 :: o3 :: o4 :: o5 :: o6 :: o7 :: o8 :: o9 :: o10 :: o11 :: o12 :: o :: t) (.int x :: st) Q := by
  obtain ⟨d, rfl⟩ := d
  intro p l e R s m args below meth c H locs cells slots lsA F a1 a2 a3 a4 a5 a6 hl
  refine lv_istore F.1 F.2.1 d hl (Nat.le_of_ble_eq_true hn) rfl (fun ls' hl' => k p l e R s m args below meth c H locs cells slots ls' F a1 a2 a3 a4 a5 a6 (zls.set1 (lsA := lsA) hl' (fun j u hj => zstore 13 (o0 :: o1 :: o2 :: o3 :: o4 :: o5 :: o6 :: o7 :: o8 :: o9 :: o10 :: o11 :: o12 :: o :: t) j u (.int x) rfl hj (fun q3 q1 y q2 => by
      obtain rfl : q3 = 12 := by omega
      have q4 : o12 = some y := Option.some.inj q2
      rw [← q4]; exact hp))))
theorem V_astoreR13 {w : Wd} {mi : Mi} {cc : ByteArray} {L cb sb : Nat} {h : Hp} {pc pc' : Nat} {Q : Outcome → Hp → Prop} {o0 o1 o2 o3 o4 o5 o6 o7 o8 o9 o10 o11 o12 : Option Value} {o : Option Value} {t : List (Option Value)} {st : List Value} {x : Nat} (hp : znl o12 = true) (d : Dc cc pc (.astore 13) 2 pc') (hn : Nat.blt 13 mi.2.1 = true) (k : V w mi cc L cb sb h pc' (o0 :: o1 :: o2 :: o3 :: o4 :: o5 :: o6 :: o7 :: o8 :: o9 :: o10 :: o11 :: o12 :: some (.ref x) :: t) st Q) : V w mi cc L cb sb h pc (o0 :: o1 :: o2 :: o3 :: o4 :: o5 :: o6 :: o7 :: o8 :: o9 :: o10 :: o11 :: o12 :: o :: t) (.ref x :: st) Q := by
  obtain ⟨d, rfl⟩ := d
  intro p l e R s m args below meth c H locs cells slots lsA F a1 a2 a3 a4 a5 a6 hl
  refine lv_astore F.1 F.2.1 d hl (Nat.le_of_ble_eq_true hn) rfl (fun ls' hl' => k p l e R s m args below meth c H locs cells slots ls' F a1 a2 a3 a4 a5 a6 (zls.set1 (lsA := lsA) hl' (fun j u hj => zstore 13 (o0 :: o1 :: o2 :: o3 :: o4 :: o5 :: o6 :: o7 :: o8 :: o9 :: o10 :: o11 :: o12 :: o :: t) j u (.ref x) rfl hj (fun q3 q1 y q2 => by
      obtain rfl : q3 = 12 := by omega
      have q4 : o12 = some y := Option.some.inj q2
      rw [← q4]; exact hp))))
theorem V_astoreN13 {w : Wd} {mi : Mi} {cc : ByteArray} {L cb sb : Nat} {h : Hp} {pc pc' : Nat} {Q : Outcome → Hp → Prop} {o0 o1 o2 o3 o4 o5 o6 o7 o8 o9 o10 o11 o12 : Option Value} {o : Option Value} {t : List (Option Value)} {st : List Value} (hp : znl o12 = true) (d : Dc cc pc (.astore 13) 2 pc') (hn : Nat.blt 13 mi.2.1 = true) (k : V w mi cc L cb sb h pc' (o0 :: o1 :: o2 :: o3 :: o4 :: o5 :: o6 :: o7 :: o8 :: o9 :: o10 :: o11 :: o12 :: some .null :: t) st Q) : V w mi cc L cb sb h pc (o0 :: o1 :: o2 :: o3 :: o4 :: o5 :: o6 :: o7 :: o8 :: o9 :: o10 :: o11 :: o12 :: o :: t) (.null :: st) Q := by
  obtain ⟨d, rfl⟩ := d
  intro p l e R s m args below meth c H locs cells slots lsA F a1 a2 a3 a4 a5 a6 hl
  refine lv_astoreN F.1 F.2.1 d hl (Nat.le_of_ble_eq_true hn) rfl (fun ls' hl' => k p l e R s m args below meth c H locs cells slots ls' F a1 a2 a3 a4 a5 a6 (zls.set1 (lsA := lsA) hl' (fun j u hj => zstore 13 (o0 :: o1 :: o2 :: o3 :: o4 :: o5 :: o6 :: o7 :: o8 :: o9 :: o10 :: o11 :: o12 :: o :: t) j u .null rfl hj (fun q3 q1 y q2 => by
      obtain rfl : q3 = 12 := by omega
      have q4 : o12 = some y := Option.some.inj q2
      rw [← q4]; exact hp))))
theorem V_astore13 {w : Wd} {mi : Mi} {cc : ByteArray} {L cb sb : Nat} {h : Hp} {pc pc' : Nat} {Q : Outcome → Hp → Prop} {o0 o1 o2 o3 o4 o5 o6 o7 o8 o9 o10 o11 o12 : Option Value} {o : Option Value} {t : List (Option Value)} {st : List Value} {x : Value} (hp : znl o12 = true) (d : Dc cc pc (.astore 13) 2 pc') (hn : Nat.blt 13 mi.2.1 = true) (hx : zrf x = true) (k : V w mi cc L cb sb h pc' (o0 :: o1 :: o2 :: o3 :: o4 :: o5 :: o6 :: o7 :: o8 :: o9 :: o10 :: o11 :: o12 :: some x :: t) st Q) : V w mi cc L cb sb h pc (o0 :: o1 :: o2 :: o3 :: o4 :: o5 :: o6 :: o7 :: o8 :: o9 :: o10 :: o11 :: o12 :: o :: t) (x :: st) Q := by
  cases x with
  | ref a => exact V_astoreR13 hp d hn k
  | null => exact V_astoreN13 hp d hn k
  | _ => exact absurd hx (by simp [zrf])
theorem V_iinc13 {w : Wd} {mi : Mi} {cc : ByteArray} {L cb sb : Nat} {h : Hp} {pc pc' : Nat} {Q : Outcome → Hp → Prop} {o0 o1 o2 o3 o4 o5 o6 o7 o8 o9 o10 o11 o12 : Option Value} {t : List (Option Value)} {st : List Value} {x v : Int32} {n : Int} (hp : znl o12 = true) (d : Dc cc pc (.iinc 13 n) 3 pc') (hn : Nat.blt 13 mi.2.1 = true) (hv : Int32.ofInt n = v) (k : V w mi cc L cb sb h pc' (o0 :: o1 :: o2 :: o3 :: o4 :: o5 :: o6 :: o7 :: o8 :: o9 :: o10 :: o11 :: o12 :: some (.int (x + v)) :: t) st Q) : V w mi cc L cb sb h pc (o0 :: o1 :: o2 :: o3 :: o4 :: o5 :: o6 :: o7 :: o8 :: o9 :: o10 :: o11 :: o12 :: some (.int x) :: t) st Q := by
  obtain ⟨d, rfl⟩ := d
  subst hv
  intro p l e R s m args below meth c H locs cells slots lsA F a1 a2 a3 a4 a5 a6 hl
  obtain ⟨kq, hk⟩ := List.mem_iff_getElem?.mp (zP_mem (b := 0) (i := 13) (v := .int x) (ls := (o0 :: o1 :: o2 :: o3 :: o4 :: o5 :: o6 :: o7 :: o8 :: o9 :: o10 :: o11 :: o12 :: some (.int x) :: t)) |>.mpr ⟨13, rfl, rfl⟩)
  refine lv_iinc F.1 F.2.1 d hl hk rfl (Nat.le_of_ble_eq_true hn) rfl (fun ls' hl' => k p l e R s m args below meth c H locs cells slots ls' F a1 a2 a3 a4 a5 a6 (zls.set1 (lsA := lsA) hl' (fun j u hj => zstore 13 (o0 :: o1 :: o2 :: o3 :: o4 :: o5 :: o6 :: o7 :: o8 :: o9 :: o10 :: o11 :: o12 :: some (.int x) :: t) j u (.int (x + Int32.ofInt n)) rfl hj (fun q3 q1 y q2 => by
      obtain rfl : q3 = 12 := by omega
      have q4 : o12 = some y := Option.some.inj q2
      rw [← q4]; exact hp))))
theorem V_iload14 {w : Wd} {mi : Mi} {cc : ByteArray} {L cb sb : Nat} {h : Hp} {pc pc' : Nat} {Q : Outcome → Hp → Prop} {o0 o1 o2 o3 o4 o5 o6 o7 o8 o9 o10 o11 o12 o13 : Option Value} {t : List (Option Value)} {st : List Value} {x : Int32} (d : Dc cc pc (.iload 14) 2 pc') (k : V w mi cc L cb sb h pc' (o0 :: o1 :: o2 :: o3 :: o4 :: o5 :: o6 :: o7 :: o8 :: o9 :: o10 :: o11 :: o12 :: o13 :: some (.int x) :: t) (.int x :: st) Q) : V w mi cc L cb sb h pc (o0 :: o1 :: o2 :: o3 :: o4 :: o5 :: o6 :: o7 :: o8 :: o9 :: o10 :: o11 :: o12 :: o13 :: some (.int x) :: t) st Q := by
  obtain ⟨d, rfl⟩ := d
  exact V_pure (fun p l e R s m args below meth c H locs cells slots lsA Q' hx hb hl F kk => lv_iload hx hb d (hl.at (i := 14) rfl) kk) k
theorem V_lload14 {w : Wd} {mi : Mi} {cc : ByteArray} {L cb sb : Nat} {h : Hp} {pc pc' : Nat} {Q : Outcome → Hp → Prop} {o0 o1 o2 o3 o4 o5 o6 o7 o8 o9 o10 o11 o12 o13 : Option Value} {t : List (Option Value)} {st : List Value} {x : Int64} (d : Dc cc pc (.lload 14) 2 pc') (k : V w mi cc L cb sb h pc' (o0 :: o1 :: o2 :: o3 :: o4 :: o5 :: o6 :: o7 :: o8 :: o9 :: o10 :: o11 :: o12 :: o13 :: some (.long x) :: t) (.long x :: st) Q) : V w mi cc L cb sb h pc (o0 :: o1 :: o2 :: o3 :: o4 :: o5 :: o6 :: o7 :: o8 :: o9 :: o10 :: o11 :: o12 :: o13 :: some (.long x) :: t) st Q := by
  obtain ⟨d, rfl⟩ := d
  exact V_pure (fun p l e R s m args below meth c H locs cells slots lsA Q' hx hb hl F kk => lv_lload hx hb d (hl.at (i := 14) rfl) kk) k
theorem V_aload14 {w : Wd} {mi : Mi} {cc : ByteArray} {L cb sb : Nat} {h : Hp} {pc pc' : Nat} {Q : Outcome → Hp → Prop} {o0 o1 o2 o3 o4 o5 o6 o7 o8 o9 o10 o11 o12 o13 : Option Value} {t : List (Option Value)} {st : List Value} {x : Value} (d : Dc cc pc (.aload 14) 2 pc') (hx : zrf x = true) (k : V w mi cc L cb sb h pc' (o0 :: o1 :: o2 :: o3 :: o4 :: o5 :: o6 :: o7 :: o8 :: o9 :: o10 :: o11 :: o12 :: o13 :: some x :: t) (x :: st) Q) : V w mi cc L cb sb h pc (o0 :: o1 :: o2 :: o3 :: o4 :: o5 :: o6 :: o7 :: o8 :: o9 :: o10 :: o11 :: o12 :: o13 :: some x :: t) st Q := by
  obtain ⟨d, rfl⟩ := d
  cases x with
  | ref a => exact V_pure (fun p l e R s m args below meth c H locs cells slots lsA Q' hx hb hl F kk => lv_aload hx hb d (hl.at (i := 14) rfl) kk) k
  | null => exact V_pure (fun p l e R s m args below meth c H locs cells slots lsA Q' hx hb hl F kk => lv_aloadN hx hb d (hl.at (i := 14) rfl) kk) k
  | _ => exact absurd hx (by simp [zrf])
theorem V_istore14 {w : Wd} {mi : Mi} {cc : ByteArray} {L cb sb : Nat} {h : Hp} {pc pc' : Nat} {Q : Outcome → Hp → Prop} {o0 o1 o2 o3 o4 o5 o6 o7 o8 o9 o10 o11 o12 o13 : Option Value} {o : Option Value} {t : List (Option Value)} {st : List Value} {x : Int32} (hp : znl o13 = true) (d : Dc cc pc (.istore 14) 2 pc') (hn : Nat.blt 14 mi.2.1 = true) (k : V w mi cc L cb sb h pc' (o0 :: o1 :: o2 :: o3 :: o4 :: o5 :: o6 :: o7 :: o8 :: o9 :: o10 :: o11 :: o12 :: o13 :: some (.int x) :: t) st Q) : V w mi cc L cb sb h pc (o0 :: o1 :: o2 :: o3 :: o4 :: o5 :: o6 :: o7 :: o8 :: o9 :: o10 :: o11 :: o12 :: o13 :: o :: t) (.int x :: st) Q := by
  obtain ⟨d, rfl⟩ := d
  intro p l e R s m args below meth c H locs cells slots lsA F a1 a2 a3 a4 a5 a6 hl
  refine lv_istore F.1 F.2.1 d hl (Nat.le_of_ble_eq_true hn) rfl (fun ls' hl' => k p l e R s m args below meth c H locs cells slots ls' F a1 a2 a3 a4 a5 a6 (zls.set1 (lsA := lsA) hl' (fun j u hj => zstore 14 (o0 :: o1 :: o2 :: o3 :: o4 :: o5 :: o6 :: o7 :: o8 :: o9 :: o10 :: o11 :: o12 :: o13 :: o :: t) j u (.int x) rfl hj (fun q3 q1 y q2 => by
      obtain rfl : q3 = 13 := by omega
      have q4 : o13 = some y := Option.some.inj q2
      rw [← q4]; exact hp))))
theorem V_astoreR14 {w : Wd} {mi : Mi} {cc : ByteArray} {L cb sb : Nat} {h : Hp} {pc pc' : Nat} {Q : Outcome → Hp → Prop} {o0 o1 o2 o3 o4 o5 o6 o7 o8 o9 o10 o11 o12 o13 : Option Value} {o : Option Value} {t : List (Option Value)} {st : List Value} {x : Nat} (hp : znl o13 = true) (d : Dc cc pc (.astore 14) 2 pc') (hn : Nat.blt 14 mi.2.1 = true) (k : V w mi cc L cb sb h pc' (o0 :: o1 :: o2 :: o3 :: o4 :: o5 :: o6 :: o7 :: o8 :: o9 :: o10 :: o11 :: o12 :: o13 :: some (.ref x) :: t) st Q) : V w mi cc L cb sb h pc (o0 :: o1 :: o2 :: o3 :: o4 :: o5 :: o6 :: o7 :: o8 :: o9 :: o10 :: o11 :: o12 :: o13 :: o :: t) (.ref x :: st) Q := by
  obtain ⟨d, rfl⟩ := d
  intro p l e R s m args below meth c H locs cells slots lsA F a1 a2 a3 a4 a5 a6 hl
  refine lv_astore F.1 F.2.1 d hl (Nat.le_of_ble_eq_true hn) rfl (fun ls' hl' => k p l e R s m args below meth c H locs cells slots ls' F a1 a2 a3 a4 a5 a6 (zls.set1 (lsA := lsA) hl' (fun j u hj => zstore 14 (o0 :: o1 :: o2 :: o3 :: o4 :: o5 :: o6 :: o7 :: o8 :: o9 :: o10 :: o11 :: o12 :: o13 :: o :: t) j u (.ref x) rfl hj (fun q3 q1 y q2 => by
      obtain rfl : q3 = 13 := by omega
      have q4 : o13 = some y := Option.some.inj q2
      rw [← q4]; exact hp))))
theorem V_astoreN14 {w : Wd} {mi : Mi} {cc : ByteArray} {L cb sb : Nat} {h : Hp} {pc pc' : Nat} {Q : Outcome → Hp → Prop} {o0 o1 o2 o3 o4 o5 o6 o7 o8 o9 o10 o11 o12 o13 : Option Value} {o : Option Value} {t : List (Option Value)} {st : List Value} (hp : znl o13 = true) (d : Dc cc pc (.astore 14) 2 pc') (hn : Nat.blt 14 mi.2.1 = true) (k : V w mi cc L cb sb h pc' (o0 :: o1 :: o2 :: o3 :: o4 :: o5 :: o6 :: o7 :: o8 :: o9 :: o10 :: o11 :: o12 :: o13 :: some .null :: t) st Q) : V w mi cc L cb sb h pc (o0 :: o1 :: o2 :: o3 :: o4 :: o5 :: o6 :: o7 :: o8 :: o9 :: o10 :: o11 :: o12 :: o13 :: o :: t) (.null :: st) Q := by
  obtain ⟨d, rfl⟩ := d
  intro p l e R s m args below meth c H locs cells slots lsA F a1 a2 a3 a4 a5 a6 hl
  refine lv_astoreN F.1 F.2.1 d hl (Nat.le_of_ble_eq_true hn) rfl (fun ls' hl' => k p l e R s m args below meth c H locs cells slots ls' F a1 a2 a3 a4 a5 a6 (zls.set1 (lsA := lsA) hl' (fun j u hj => zstore 14 (o0 :: o1 :: o2 :: o3 :: o4 :: o5 :: o6 :: o7 :: o8 :: o9 :: o10 :: o11 :: o12 :: o13 :: o :: t) j u .null rfl hj (fun q3 q1 y q2 => by
      obtain rfl : q3 = 13 := by omega
      have q4 : o13 = some y := Option.some.inj q2
      rw [← q4]; exact hp))))
theorem V_astore14 {w : Wd} {mi : Mi} {cc : ByteArray} {L cb sb : Nat} {h : Hp} {pc pc' : Nat} {Q : Outcome → Hp → Prop} {o0 o1 o2 o3 o4 o5 o6 o7 o8 o9 o10 o11 o12 o13 : Option Value} {o : Option Value} {t : List (Option Value)} {st : List Value} {x : Value} (hp : znl o13 = true) (d : Dc cc pc (.astore 14) 2 pc') (hn : Nat.blt 14 mi.2.1 = true) (hx : zrf x = true) (k : V w mi cc L cb sb h pc' (o0 :: o1 :: o2 :: o3 :: o4 :: o5 :: o6 :: o7 :: o8 :: o9 :: o10 :: o11 :: o12 :: o13 :: some x :: t) st Q) : V w mi cc L cb sb h pc (o0 :: o1 :: o2 :: o3 :: o4 :: o5 :: o6 :: o7 :: o8 :: o9 :: o10 :: o11 :: o12 :: o13 :: o :: t) (x :: st) Q := by
  cases x with
  | ref a => exact V_astoreR14 hp d hn k
  | null => exact V_astoreN14 hp d hn k
  | _ => exact absurd hx (by simp [zrf])
theorem V_iinc14 {w : Wd} {mi : Mi} {cc : ByteArray} {L cb sb : Nat} {h : Hp} {pc pc' : Nat} {Q : Outcome → Hp → Prop} {o0 o1 o2 o3 o4 o5 o6 o7 o8 o9 o10 o11 o12 o13 : Option Value} {t : List (Option Value)} {st : List Value} {x v : Int32} {n : Int} (hp : znl o13 = true) (d : Dc cc pc (.iinc 14 n) 3 pc') (hn : Nat.blt 14 mi.2.1 = true) (hv : Int32.ofInt n = v) (k : V w mi cc L cb sb h pc' (o0 :: o1 :: o2 :: o3 :: o4 :: o5 :: o6 :: o7 :: o8 :: o9 :: o10 :: o11 :: o12 :: o13 :: some (.int (x + v)) :: t) st Q) : V w mi cc L cb sb h pc (o0 :: o1 :: o2 :: o3 :: o4 :: o5 :: o6 :: o7 :: o8 :: o9 :: o10 :: o11 :: o12 :: o13 :: some (.int x) :: t) st Q := by
  obtain ⟨d, rfl⟩ := d
  subst hv
  intro p l e R s m args below meth c H locs cells slots lsA F a1 a2 a3 a4 a5 a6 hl
  obtain ⟨kq, hk⟩ := List.mem_iff_getElem?.mp (zP_mem (b := 0) (i := 14) (v := .int x) (ls := (o0 :: o1 :: o2 :: o3 :: o4 :: o5 :: o6 :: o7 :: o8 :: o9 :: o10 :: o11 :: o12 :: o13 :: some (.int x) :: t)) |>.mpr ⟨14, rfl, rfl⟩)
  refine lv_iinc F.1 F.2.1 d hl hk rfl (Nat.le_of_ble_eq_true hn) rfl (fun ls' hl' => k p l e R s m args below meth c H locs cells slots ls' F a1 a2 a3 a4 a5 a6 (zls.set1 (lsA := lsA) hl' (fun j u hj => zstore 14 (o0 :: o1 :: o2 :: o3 :: o4 :: o5 :: o6 :: o7 :: o8 :: o9 :: o10 :: o11 :: o12 :: o13 :: some (.int x) :: t) j u (.int (x + Int32.ofInt n)) rfl hj (fun q3 q1 y q2 => by
      obtain rfl : q3 = 13 := by omega
      have q4 : o13 = some y := Option.some.inj q2
      rw [← q4]; exact hp))))
theorem V_iload15 {w : Wd} {mi : Mi} {cc : ByteArray} {L cb sb : Nat} {h : Hp} {pc pc' : Nat} {Q : Outcome → Hp → Prop} {o0 o1 o2 o3 o4 o5 o6 o7 o8 o9 o10 o11 o12 o13 o14 : Option Value} {t : List (Option Value)} {st : List Value} {x : Int32} (d : Dc cc pc (.iload 15) 2 pc') (k : V w mi cc L cb sb h pc' (o0 :: o1 :: o2 :: o3 :: o4 :: o5 :: o6 :: o7 :: o8 :: o9 :: o10 :: o11 :: o12 :: o13 :: o14 :: some (.int x) :: t) (.int x :: st) Q) : V w mi cc L cb sb h pc (o0 :: o1 :: o2 :: o3 :: o4 :: o5 :: o6 :: o7 :: o8 :: o9 :: o10 :: o11 :: o12 :: o13 :: o14 :: some (.int x) :: t) st Q := by
  obtain ⟨d, rfl⟩ := d
  exact V_pure (fun p l e R s m args below meth c H locs cells slots lsA Q' hx hb hl F kk => lv_iload hx hb d (hl.at (i := 15) rfl) kk) k
theorem V_lload15 {w : Wd} {mi : Mi} {cc : ByteArray} {L cb sb : Nat} {h : Hp} {pc pc' : Nat} {Q : Outcome → Hp → Prop} {o0 o1 o2 o3 o4 o5 o6 o7 o8 o9 o10 o11 o12 o13 o14 : Option Value} {t : List (Option Value)} {st : List Value} {x : Int64} (d : Dc cc pc (.lload 15) 2 pc') (k : V w mi cc L cb sb h pc' (o0 :: o1 :: o2 :: o3 :: o4 :: o5 :: o6 :: o7 :: o8 :: o9 :: o10 :: o11 :: o12 :: o13 :: o14 :: some (.long x) :: t) (.long x :: st) Q) : V w mi cc L cb sb h pc (o0 :: o1 :: o2 :: o3 :: o4 :: o5 :: o6 :: o7 :: o8 :: o9 :: o10 :: o11 :: o12 :: o13 :: o14 :: some (.long x) :: t) st Q := by
  obtain ⟨d, rfl⟩ := d
  exact V_pure (fun p l e R s m args below meth c H locs cells slots lsA Q' hx hb hl F kk => lv_lload hx hb d (hl.at (i := 15) rfl) kk) k
theorem V_aload15 {w : Wd} {mi : Mi} {cc : ByteArray} {L cb sb : Nat} {h : Hp} {pc pc' : Nat} {Q : Outcome → Hp → Prop} {o0 o1 o2 o3 o4 o5 o6 o7 o8 o9 o10 o11 o12 o13 o14 : Option Value} {t : List (Option Value)} {st : List Value} {x : Value} (d : Dc cc pc (.aload 15) 2 pc') (hx : zrf x = true) (k : V w mi cc L cb sb h pc' (o0 :: o1 :: o2 :: o3 :: o4 :: o5 :: o6 :: o7 :: o8 :: o9 :: o10 :: o11 :: o12 :: o13 :: o14 :: some x :: t) (x :: st) Q) : V w mi cc L cb sb h pc (o0 :: o1 :: o2 :: o3 :: o4 :: o5 :: o6 :: o7 :: o8 :: o9 :: o10 :: o11 :: o12 :: o13 :: o14 :: some x :: t) st Q := by
  obtain ⟨d, rfl⟩ := d
  cases x with
  | ref a => exact V_pure (fun p l e R s m args below meth c H locs cells slots lsA Q' hx hb hl F kk => lv_aload hx hb d (hl.at (i := 15) rfl) kk) k
  | null => exact V_pure (fun p l e R s m args below meth c H locs cells slots lsA Q' hx hb hl F kk => lv_aloadN hx hb d (hl.at (i := 15) rfl) kk) k
  | _ => exact absurd hx (by simp [zrf])
theorem V_istore15 {w : Wd} {mi : Mi} {cc : ByteArray} {L cb sb : Nat} {h : Hp} {pc pc' : Nat} {Q : Outcome → Hp → Prop} {o0 o1 o2 o3 o4 o5 o6 o7 o8 o9 o10 o11 o12 o13 o14 : Option Value} {o : Option Value} {t : List (Option Value)} {st : List Value} {x : Int32} (hp : znl o14 = true) (d : Dc cc pc (.istore 15) 2 pc') (hn : Nat.blt 15 mi.2.1 = true) (k : V w mi cc L cb sb h pc' (o0 :: o1 :: o2 :: o3 :: o4 :: o5 :: o6 :: o7 :: o8 :: o9 :: o10 :: o11 :: o12 :: o13 :: o14 :: some (.int x) :: t) st Q) : V w mi cc L cb sb h pc (o0 :: o1 :: o2 :: o3 :: o4 :: o5 :: o6 :: o7 :: o8 :: o9 :: o10 :: o11 :: o12 :: o13 :: o14 :: o :: t) (.int x :: st) Q := by
  obtain ⟨d, rfl⟩ := d
  intro p l e R s m args below meth c H locs cells slots lsA F a1 a2 a3 a4 a5 a6 hl
  refine lv_istore F.1 F.2.1 d hl (Nat.le_of_ble_eq_true hn) rfl (fun ls' hl' => k p l e R s m args below meth c H locs cells slots ls' F a1 a2 a3 a4 a5 a6 (zls.set1 (lsA := lsA) hl' (fun j u hj => zstore 15 (o0 :: o1 :: o2 :: o3 :: o4 :: o5 :: o6 :: o7 :: o8 :: o9 :: o10 :: o11 :: o12 :: o13 :: o14 :: o :: t) j u (.int x) rfl hj (fun q3 q1 y q2 => by
      obtain rfl : q3 = 14 := by omega
      have q4 : o14 = some y := Option.some.inj q2
      rw [← q4]; exact hp))))
theorem V_astoreR15 {w : Wd} {mi : Mi} {cc : ByteArray} {L cb sb : Nat} {h : Hp} {pc pc' : Nat} {Q : Outcome → Hp → Prop} {o0 o1 o2 o3 o4 o5 o6 o7 o8 o9 o10 o11 o12 o13 o14 : Option Value} {o : Option Value} {t : List (Option Value)} {st : List Value} {x : Nat} (hp : znl o14 = true) (d : Dc cc pc (.astore 15) 2 pc') (hn : Nat.blt 15 mi.2.1 = true) (k : V w mi cc L cb sb h pc' (o0 :: o1 :: o2 :: o3 :: o4 :: o5 :: o6 :: o7 :: o8 :: o9 :: o10 :: o11 :: o12 :: o13 :: o14 :: some (.ref x) :: t) st Q) : V w mi cc L cb sb h pc (o0 :: o1 :: o2 :: o3 :: o4 :: o5 :: o6 :: o7 :: o8 :: o9 :: o10 :: o11 :: o12 :: o13 :: o14 :: o :: t) (.ref x :: st) Q := by
  obtain ⟨d, rfl⟩ := d
  intro p l e R s m args below meth c H locs cells slots lsA F a1 a2 a3 a4 a5 a6 hl
  refine lv_astore F.1 F.2.1 d hl (Nat.le_of_ble_eq_true hn) rfl (fun ls' hl' => k p l e R s m args below meth c H locs cells slots ls' F a1 a2 a3 a4 a5 a6 (zls.set1 (lsA := lsA) hl' (fun j u hj => zstore 15 (o0 :: o1 :: o2 :: o3 :: o4 :: o5 :: o6 :: o7 :: o8 :: o9 :: o10 :: o11 :: o12 :: o13 :: o14 :: o :: t) j u (.ref x) rfl hj (fun q3 q1 y q2 => by
      obtain rfl : q3 = 14 := by omega
      have q4 : o14 = some y := Option.some.inj q2
      rw [← q4]; exact hp))))
theorem V_astoreN15 {w : Wd} {mi : Mi} {cc : ByteArray} {L cb sb : Nat} {h : Hp} {pc pc' : Nat} {Q : Outcome → Hp → Prop} {o0 o1 o2 o3 o4 o5 o6 o7 o8 o9 o10 o11 o12 o13 o14 : Option Value} {o : Option Value} {t : List (Option Value)} {st : List Value} (hp : znl o14 = true) (d : Dc cc pc (.astore 15) 2 pc') (hn : Nat.blt 15 mi.2.1 = true) (k : V w mi cc L cb sb h pc' (o0 :: o1 :: o2 :: o3 :: o4 :: o5 :: o6 :: o7 :: o8 :: o9 :: o10 :: o11 :: o12 :: o13 :: o14 :: some .null :: t) st Q) : V w mi cc L cb sb h pc (o0 :: o1 :: o2 :: o3 :: o4 :: o5 :: o6 :: o7 :: o8 :: o9 :: o10 :: o11 :: o12 :: o13 :: o14 :: o :: t) (.null :: st) Q := by
  obtain ⟨d, rfl⟩ := d
  intro p l e R s m args below meth c H locs cells slots lsA F a1 a2 a3 a4 a5 a6 hl
  refine lv_astoreN F.1 F.2.1 d hl (Nat.le_of_ble_eq_true hn) rfl (fun ls' hl' => k p l e R s m args below meth c H locs cells slots ls' F a1 a2 a3 a4 a5 a6 (zls.set1 (lsA := lsA) hl' (fun j u hj => zstore 15 (o0 :: o1 :: o2 :: o3 :: o4 :: o5 :: o6 :: o7 :: o8 :: o9 :: o10 :: o11 :: o12 :: o13 :: o14 :: o :: t) j u .null rfl hj (fun q3 q1 y q2 => by
      obtain rfl : q3 = 14 := by omega
      have q4 : o14 = some y := Option.some.inj q2
      rw [← q4]; exact hp))))
theorem V_astore15 {w : Wd} {mi : Mi} {cc : ByteArray} {L cb sb : Nat} {h : Hp} {pc pc' : Nat} {Q : Outcome → Hp → Prop} {o0 o1 o2 o3 o4 o5 o6 o7 o8 o9 o10 o11 o12 o13 o14 : Option Value} {o : Option Value} {t : List (Option Value)} {st : List Value} {x : Value} (hp : znl o14 = true) (d : Dc cc pc (.astore 15) 2 pc') (hn : Nat.blt 15 mi.2.1 = true) (hx : zrf x = true) (k : V w mi cc L cb sb h pc' (o0 :: o1 :: o2 :: o3 :: o4 :: o5 :: o6 :: o7 :: o8 :: o9 :: o10 :: o11 :: o12 :: o13 :: o14 :: some x :: t) st Q) : V w mi cc L cb sb h pc (o0 :: o1 :: o2 :: o3 :: o4 :: o5 :: o6 :: o7 :: o8 :: o9 :: o10 :: o11 :: o12 :: o13 :: o14 :: o :: t) (x :: st) Q := by
  cases x with
  | ref a => exact V_astoreR15 hp d hn k
  | null => exact V_astoreN15 hp d hn k
  | _ => exact absurd hx (by simp [zrf])
theorem V_iinc15 {w : Wd} {mi : Mi} {cc : ByteArray} {L cb sb : Nat} {h : Hp} {pc pc' : Nat} {Q : Outcome → Hp → Prop} {o0 o1 o2 o3 o4 o5 o6 o7 o8 o9 o10 o11 o12 o13 o14 : Option Value} {t : List (Option Value)} {st : List Value} {x v : Int32} {n : Int} (hp : znl o14 = true) (d : Dc cc pc (.iinc 15 n) 3 pc') (hn : Nat.blt 15 mi.2.1 = true) (hv : Int32.ofInt n = v) (k : V w mi cc L cb sb h pc' (o0 :: o1 :: o2 :: o3 :: o4 :: o5 :: o6 :: o7 :: o8 :: o9 :: o10 :: o11 :: o12 :: o13 :: o14 :: some (.int (x + v)) :: t) st Q) : V w mi cc L cb sb h pc (o0 :: o1 :: o2 :: o3 :: o4 :: o5 :: o6 :: o7 :: o8 :: o9 :: o10 :: o11 :: o12 :: o13 :: o14 :: some (.int x) :: t) st Q := by
  obtain ⟨d, rfl⟩ := d
  subst hv
  intro p l e R s m args below meth c H locs cells slots lsA F a1 a2 a3 a4 a5 a6 hl
  obtain ⟨kq, hk⟩ := List.mem_iff_getElem?.mp (zP_mem (b := 0) (i := 15) (v := .int x) (ls := (o0 :: o1 :: o2 :: o3 :: o4 :: o5 :: o6 :: o7 :: o8 :: o9 :: o10 :: o11 :: o12 :: o13 :: o14 :: some (.int x) :: t)) |>.mpr ⟨15, rfl, rfl⟩)
  refine lv_iinc F.1 F.2.1 d hl hk rfl (Nat.le_of_ble_eq_true hn) rfl (fun ls' hl' => k p l e R s m args below meth c H locs cells slots ls' F a1 a2 a3 a4 a5 a6 (zls.set1 (lsA := lsA) hl' (fun j u hj => zstore 15 (o0 :: o1 :: o2 :: o3 :: o4 :: o5 :: o6 :: o7 :: o8 :: o9 :: o10 :: o11 :: o12 :: o13 :: o14 :: some (.int x) :: t) j u (.int (x + Int32.ofInt n)) rfl hj (fun q3 q1 y q2 => by
      obtain rfl : q3 = 14 := by omega
      have q4 : o14 = some y := Option.some.inj q2
      rw [← q4]; exact hp))))
theorem V_iload16 {w : Wd} {mi : Mi} {cc : ByteArray} {L cb sb : Nat} {h : Hp} {pc pc' : Nat} {Q : Outcome → Hp → Prop} {o0 o1 o2 o3 o4 o5 o6 o7 o8 o9 o10 o11 o12 o13 o14 o15 : Option Value} {t : List (Option Value)} {st : List Value} {x : Int32} (d : Dc cc pc (.iload 16) 2 pc') (k : V w mi cc L cb sb h pc' (o0 :: o1 :: o2 :: o3 :: o4 :: o5 :: o6 :: o7 :: o8 :: o9 :: o10 :: o11 :: o12 :: o13 :: o14 :: o15 :: some (.int x) :: t) (.int x :: st) Q) : V w mi cc L cb sb h pc (o0 :: o1 :: o2 :: o3 :: o4 :: o5 :: o6 :: o7 :: o8 :: o9 :: o10 :: o11 :: o12 :: o13 :: o14 :: o15 :: some (.int x) :: t) st Q := by
  obtain ⟨d, rfl⟩ := d
  exact V_pure (fun p l e R s m args below meth c H locs cells slots lsA Q' hx hb hl F kk => lv_iload hx hb d (hl.at (i := 16) rfl) kk) k
theorem V_lload16 {w : Wd} {mi : Mi} {cc : ByteArray} {L cb sb : Nat} {h : Hp} {pc pc' : Nat} {Q : Outcome → Hp → Prop} {o0 o1 o2 o3 o4 o5 o6 o7 o8 o9 o10 o11 o12 o13 o14 o15 : Option Value} {t : List (Option Value)} {st : List Value} {x : Int64} (d : Dc cc pc (.lload 16) 2 pc') (k : V w mi cc L cb sb h pc' (o0 :: o1 :: o2 :: o3 :: o4 :: o5 :: o6 :: o7 :: o8 :: o9 :: o10 :: o11 :: o12 :: o13 :: o14 :: o15 :: some (.long x) :: t) (.long x :: st) Q) : V w mi cc L cb sb h pc (o0 :: o1 :: o2 :: o3 :: o4 :: o5 :: o6 :: o7 :: o8 :: o9 :: o10 :: o11 :: o12 :: o13 :: o14 :: o15 :: some (.long x) :: t) st Q := by
  obtain ⟨d, rfl⟩ := d
  exact V_pure (fun p l e R s m args below meth c H locs cells slots lsA Q' hx hb hl F kk => lv_lload hx hb d (hl.at (i := 16) rfl) kk) k
theorem V_aload16 {w : Wd} {mi : Mi} {cc : ByteArray} {L cb sb : Nat} {h : Hp} {pc pc' : Nat} {Q : Outcome → Hp → Prop} {o0 o1 o2 o3 o4 o5 o6 o7 o8 o9 o10 o11 o12 o13 o14 o15 : Option Value} {t : List (Option Value)} {st : List Value} {x : Value} (d : Dc cc pc (.aload 16) 2 pc') (hx : zrf x = true) (k : V w mi cc L cb sb h pc' (o0 :: o1 :: o2 :: o3 :: o4 :: o5 :: o6 :: o7 :: o8 :: o9 :: o10 :: o11 :: o12 :: o13 :: o14 :: o15 :: some x :: t) (x :: st) Q) : V w mi cc L cb sb h pc (o0 :: o1 :: o2 :: o3 :: o4 :: o5 :: o6 :: o7 :: o8 :: o9 :: o10 :: o11 :: o12 :: o13 :: o14 :: o15 :: some x :: t) st Q := by
  obtain ⟨d, rfl⟩ := d
  cases x with
  | ref a => exact V_pure (fun p l e R s m args below meth c H locs cells slots lsA Q' hx hb hl F kk => lv_aload hx hb d (hl.at (i := 16) rfl) kk) k
  | null => exact V_pure (fun p l e R s m args below meth c H locs cells slots lsA Q' hx hb hl F kk => lv_aloadN hx hb d (hl.at (i := 16) rfl) kk) k
  | _ => exact absurd hx (by simp [zrf])
theorem V_istore16 {w : Wd} {mi : Mi} {cc : ByteArray} {L cb sb : Nat} {h : Hp} {pc pc' : Nat} {Q : Outcome → Hp → Prop} {o0 o1 o2 o3 o4 o5 o6 o7 o8 o9 o10 o11 o12 o13 o14 o15 : Option Value} {o : Option Value} {t : List (Option Value)} {st : List Value} {x : Int32} (hp : znl o15 = true) (d : Dc cc pc (.istore 16) 2 pc') (hn : Nat.blt 16 mi.2.1 = true) (k : V w mi cc L cb sb h pc' (o0 :: o1 :: o2 :: o3 :: o4 :: o5 :: o6 :: o7 :: o8 :: o9 :: o10 :: o11 :: o12 :: o13 :: o14 :: o15 :: some (.int x) :: t) st Q) : V w mi cc L cb sb h pc (o0 :: o1 :: o2 :: o3 :: o4 :: o5 :: o6 :: o7 :: o8 :: o9 :: o10 :: o11 :: o12 :: o13 :: o14 :: o15 :: o :: t) (.int x :: st) Q := by
  obtain ⟨d, rfl⟩ := d
  intro p l e R s m args below meth c H locs cells slots lsA F a1 a2 a3 a4 a5 a6 hl
  refine lv_istore F.1 F.2.1 d hl (Nat.le_of_ble_eq_true hn) rfl (fun ls' hl' => k p l e R s m args below meth c H locs cells slots ls' F a1 a2 a3 a4 a5 a6 (zls.set1 (lsA := lsA) hl' (fun j u hj => zstore 16 (o0 :: o1 :: o2 :: o3 :: o4 :: o5 :: o6 :: o7 :: o8 :: o9 :: o10 :: o11 :: o12 :: o13 :: o14 :: o15 :: o :: t) j u (.int x) rfl hj (fun q3 q1 y q2 => by
      obtain rfl : q3 = 15 := by omega
      have q4 : o15 = some y := Option.some.inj q2
      rw [← q4]; exact hp))))
theorem V_astoreR16 {w : Wd} {mi : Mi} {cc : ByteArray} {L cb sb : Nat} {h : Hp} {pc pc' : Nat} {Q : Outcome → Hp → Prop} {o0 o1 o2 o3 o4 o5 o6 o7 o8 o9 o10 o11 o12 o13 o14 o15 : Option Value} {o : Option Value} {t : List (Option Value)} {st : List Value} {x : Nat} (hp : znl o15 = true) (d : Dc cc pc (.astore 16) 2 pc') (hn : Nat.blt 16 mi.2.1 = true) (k : V w mi cc L cb sb h pc' (o0 :: o1 :: o2 :: o3 :: o4 :: o5 :: o6 :: o7 :: o8 :: o9 :: o10 :: o11 :: o12 :: o13 :: o14 :: o15 :: some (.ref x) :: t) st Q) : V w mi cc L cb sb h pc (o0 :: o1 :: o2 :: o3 :: o4 :: o5 :: o6 :: o7 :: o8 :: o9 :: o10 :: o11 :: o12 :: o13 :: o14 :: o15 :: o :: t) (.ref x :: st) Q := by
  obtain ⟨d, rfl⟩ := d
  intro p l e R s m args below meth c H locs cells slots lsA F a1 a2 a3 a4 a5 a6 hl
  refine lv_astore F.1 F.2.1 d hl (Nat.le_of_ble_eq_true hn) rfl (fun ls' hl' => k p l e R s m args below meth c H locs cells slots ls' F a1 a2 a3 a4 a5 a6 (zls.set1 (lsA := lsA) hl' (fun j u hj => zstore 16 (o0 :: o1 :: o2 :: o3 :: o4 :: o5 :: o6 :: o7 :: o8 :: o9 :: o10 :: o11 :: o12 :: o13 :: o14 :: o15 :: o :: t) j u (.ref x) rfl hj (fun q3 q1 y q2 => by
      obtain rfl : q3 = 15 := by omega
      have q4 : o15 = some y := Option.some.inj q2
      rw [← q4]; exact hp))))
theorem V_astoreN16 {w : Wd} {mi : Mi} {cc : ByteArray} {L cb sb : Nat} {h : Hp} {pc pc' : Nat} {Q : Outcome → Hp → Prop} {o0 o1 o2 o3 o4 o5 o6 o7 o8 o9 o10 o11 o12 o13 o14 o15 : Option Value} {o : Option Value} {t : List (Option Value)} {st : List Value} (hp : znl o15 = true) (d : Dc cc pc (.astore 16) 2 pc') (hn : Nat.blt 16 mi.2.1 = true) (k : V w mi cc L cb sb h pc' (o0 :: o1 :: o2 :: o3 :: o4 :: o5 :: o6 :: o7 :: o8 :: o9 :: o10 :: o11 :: o12 :: o13 :: o14 :: o15 :: some .null :: t) st Q) : V w mi cc L cb sb h pc (o0 :: o1 :: o2 :: o3 :: o4 :: o5 :: o6 :: o7 :: o8 :: o9 :: o10 :: o11 :: o12 :: o13 :: o14 :: o15 :: o :: t) (.null :: st) Q := by
  obtain ⟨d, rfl⟩ := d
  intro p l e R s m args below meth c H locs cells slots lsA F a1 a2 a3 a4 a5 a6 hl
  refine lv_astoreN F.1 F.2.1 d hl (Nat.le_of_ble_eq_true hn) rfl (fun ls' hl' => k p l e R s m args below meth c H locs cells slots ls' F a1 a2 a3 a4 a5 a6 (zls.set1 (lsA := lsA) hl' (fun j u hj => zstore 16 (o0 :: o1 :: o2 :: o3 :: o4 :: o5 :: o6 :: o7 :: o8 :: o9 :: o10 :: o11 :: o12 :: o13 :: o14 :: o15 :: o :: t) j u .null rfl hj (fun q3 q1 y q2 => by
      obtain rfl : q3 = 15 := by omega
      have q4 : o15 = some y := Option.some.inj q2
      rw [← q4]; exact hp))))
theorem V_astore16 {w : Wd} {mi : Mi} {cc : ByteArray} {L cb sb : Nat} {h : Hp} {pc pc' : Nat} {Q : Outcome → Hp → Prop} {o0 o1 o2 o3 o4 o5 o6 o7 o8 o9 o10 o11 o12 o13 o14 o15 : Option Value} {o : Option Value} {t : List (Option Value)} {st : List Value} {x : Value} (hp : znl o15 = true) (d : Dc cc pc (.astore 16) 2 pc') (hn : Nat.blt 16 mi.2.1 = true) (hx : zrf x = true) (k : V w mi cc L cb sb h pc' (o0 :: o1 :: o2 :: o3 :: o4 :: o5 :: o6 :: o7 :: o8 :: o9 :: o10 :: o11 :: o12 :: o13 :: o14 :: o15 :: some x :: t) st Q) : V w mi cc L cb sb h pc (o0 :: o1 :: o2 :: o3 :: o4 :: o5 :: o6 :: o7 :: o8 :: o9 :: o10 :: o11 :: o12 :: o13 :: o14 :: o15 :: o :: t) (x :: st) Q := by
  cases x with
  | ref a => exact V_astoreR16 hp d hn k
  | null => exact V_astoreN16 hp d hn k
  | _ => exact absurd hx (by simp [zrf])
theorem V_iinc16 {w : Wd} {mi : Mi} {cc : ByteArray} {L cb sb : Nat} {h : Hp} {pc pc' : Nat} {Q : Outcome → Hp → Prop} {o0 o1 o2 o3 o4 o5 o6 o7 o8 o9 o10 o11 o12 o13 o14 o15 : Option Value} {t : List (Option Value)} {st : List Value} {x v : Int32} {n : Int} (hp : znl o15 = true) (d : Dc cc pc (.iinc 16 n) 3 pc') (hn : Nat.blt 16 mi.2.1 = true) (hv : Int32.ofInt n = v) (k : V w mi cc L cb sb h pc' (o0 :: o1 :: o2 :: o3 :: o4 :: o5 :: o6 :: o7 :: o8 :: o9 :: o10 :: o11 :: o12 :: o13 :: o14 :: o15 :: some (.int (x + v)) :: t) st Q) : V w mi cc L cb sb h pc (o0 :: o1 :: o2 :: o3 :: o4 :: o5 :: o6 :: o7 :: o8 :: o9 :: o10 :: o11 :: o12 :: o13 :: o14 :: o15 :: some (.int x) :: t) st Q := by
  obtain ⟨d, rfl⟩ := d
  subst hv
  intro p l e R s m args below meth c H locs cells slots lsA F a1 a2 a3 a4 a5 a6 hl
  obtain ⟨kq, hk⟩ := List.mem_iff_getElem?.mp (zP_mem (b := 0) (i := 16) (v := .int x) (ls := (o0 :: o1 :: o2 :: o3 :: o4 :: o5 :: o6 :: o7 :: o8 :: o9 :: o10 :: o11 :: o12 :: o13 :: o14 :: o15 :: some (.int x) :: t)) |>.mpr ⟨16, rfl, rfl⟩)
  refine lv_iinc F.1 F.2.1 d hl hk rfl (Nat.le_of_ble_eq_true hn) rfl (fun ls' hl' => k p l e R s m args below meth c H locs cells slots ls' F a1 a2 a3 a4 a5 a6 (zls.set1 (lsA := lsA) hl' (fun j u hj => zstore 16 (o0 :: o1 :: o2 :: o3 :: o4 :: o5 :: o6 :: o7 :: o8 :: o9 :: o10 :: o11 :: o12 :: o13 :: o14 :: o15 :: some (.int x) :: t) j u (.int (x + Int32.ofInt n)) rfl hj (fun q3 q1 y q2 => by
      obtain rfl : q3 = 15 := by omega
      have q4 : o15 = some y := Option.some.inj q2
      rw [← q4]; exact hp))))
theorem V_iload17 {w : Wd} {mi : Mi} {cc : ByteArray} {L cb sb : Nat} {h : Hp} {pc pc' : Nat} {Q : Outcome → Hp → Prop} {o0 o1 o2 o3 o4 o5 o6 o7 o8 o9 o10 o11 o12 o13 o14 o15 o16 : Option Value} {t : List (Option Value)} {st : List Value} {x : Int32} (d : Dc cc pc (.iload 17) 2 pc') (k : V w mi cc L cb sb h pc' (o0 :: o1 :: o2 :: o3 :: o4 :: o5 :: o6 :: o7 :: o8 :: o9 :: o10 :: o11 :: o12 :: o13 :: o14 :: o15 :: o16 :: some (.int x) :: t) (.int x :: st) Q) : V w mi cc L cb sb h pc (o0 :: o1 :: o2 :: o3 :: o4 :: o5 :: o6 :: o7 :: o8 :: o9 :: o10 :: o11 :: o12 :: o13 :: o14 :: o15 :: o16 :: some (.int x) :: t) st Q := by
  obtain ⟨d, rfl⟩ := d
  exact V_pure (fun p l e R s m args below meth c H locs cells slots lsA Q' hx hb hl F kk => lv_iload hx hb d (hl.at (i := 17) rfl) kk) k
theorem V_lload17 {w : Wd} {mi : Mi} {cc : ByteArray} {L cb sb : Nat} {h : Hp} {pc pc' : Nat} {Q : Outcome → Hp → Prop} {o0 o1 o2 o3 o4 o5 o6 o7 o8 o9 o10 o11 o12 o13 o14 o15 o16 : Option Value} {t : List (Option Value)} {st : List Value} {x : Int64} (d : Dc cc pc (.lload 17) 2 pc') (k : V w mi cc L cb sb h pc' (o0 :: o1 :: o2 :: o3 :: o4 :: o5 :: o6 :: o7 :: o8 :: o9 :: o10 :: o11 :: o12 :: o13 :: o14 :: o15 :: o16 :: some (.long x) :: t) (.long x :: st) Q) : V w mi cc L cb sb h pc (o0 :: o1 :: o2 :: o3 :: o4 :: o5 :: o6 :: o7 :: o8 :: o9 :: o10 :: o11 :: o12 :: o13 :: o14 :: o15 :: o16 :: some (.long x) :: t) st Q := by
  obtain ⟨d, rfl⟩ := d
  exact V_pure (fun p l e R s m args below meth c H locs cells slots lsA Q' hx hb hl F kk => lv_lload hx hb d (hl.at (i := 17) rfl) kk) k
theorem V_aload17 {w : Wd} {mi : Mi} {cc : ByteArray} {L cb sb : Nat} {h : Hp} {pc pc' : Nat} {Q : Outcome → Hp → Prop} {o0 o1 o2 o3 o4 o5 o6 o7 o8 o9 o10 o11 o12 o13 o14 o15 o16 : Option Value} {t : List (Option Value)} {st : List Value} {x : Value} (d : Dc cc pc (.aload 17) 2 pc') (hx : zrf x = true) (k : V w mi cc L cb sb h pc' (o0 :: o1 :: o2 :: o3 :: o4 :: o5 :: o6 :: o7 :: o8 :: o9 :: o10 :: o11 :: o12 :: o13 :: o14 :: o15 :: o16 :: some x :: t) (x :: st) Q) : V w mi cc L cb sb h pc (o0 :: o1 :: o2 :: o3 :: o4 :: o5 :: o6 :: o7 :: o8 :: o9 :: o10 :: o11 :: o12 :: o13 :: o14 :: o15 :: o16 :: some x :: t) st Q := by
  obtain ⟨d, rfl⟩ := d
  cases x with
  | ref a => exact V_pure (fun p l e R s m args below meth c H locs cells slots lsA Q' hx hb hl F kk => lv_aload hx hb d (hl.at (i := 17) rfl) kk) k
  | null => exact V_pure (fun p l e R s m args below meth c H locs cells slots lsA Q' hx hb hl F kk => lv_aloadN hx hb d (hl.at (i := 17) rfl) kk) k
  | _ => exact absurd hx (by simp [zrf])
theorem V_istore17 {w : Wd} {mi : Mi} {cc : ByteArray} {L cb sb : Nat} {h : Hp} {pc pc' : Nat} {Q : Outcome → Hp → Prop} {o0 o1 o2 o3 o4 o5 o6 o7 o8 o9 o10 o11 o12 o13 o14 o15 o16 : Option Value} {o : Option Value} {t : List (Option Value)} {st : List Value} {x : Int32} (hp : znl o16 = true) (d : Dc cc pc (.istore 17) 2 pc') (hn : Nat.blt 17 mi.2.1 = true) (k : V w mi cc L cb sb h pc' (o0 :: o1 :: o2 :: o3 :: o4 :: o5 :: o6 :: o7 :: o8 :: o9 :: o10 :: o11 :: o12 :: o13 :: o14 :: o15 :: o16 :: some (.int x) :: t) st Q) : V w mi cc L cb sb h pc (o0 :: o1 :: o2 :: o3 :: o4 :: o5 :: o6 :: o7 :: o8 :: o9 :: o10 :: o11 :: o12 :: o13 :: o14 :: o15 :: o16 :: o :: t) (.int x :: st) Q := by
  obtain ⟨d, rfl⟩ := d
  intro p l e R s m args below meth c H locs cells slots lsA F a1 a2 a3 a4 a5 a6 hl
  refine lv_istore F.1 F.2.1 d hl (Nat.le_of_ble_eq_true hn) rfl (fun ls' hl' => k p l e R s m args below meth c H locs cells slots ls' F a1 a2 a3 a4 a5 a6 (zls.set1 (lsA := lsA) hl' (fun j u hj => zstore 17 (o0 :: o1 :: o2 :: o3 :: o4 :: o5 :: o6 :: o7 :: o8 :: o9 :: o10 :: o11 :: o12 :: o13 :: o14 :: o15 :: o16 :: o :: t) j u (.int x) rfl hj (fun q3 q1 y q2 => by
      obtain rfl : q3 = 16 := by omega
      have q4 : o16 = some y := Option.some.inj q2
      rw [← q4]; exact hp))))
theorem V_astoreR17 {w : Wd} {mi : Mi} {cc : ByteArray} {L cb sb : Nat} {h : Hp} {pc pc' : Nat} {Q : Outcome → Hp → Prop} {o0 o1 o2 o3 o4 o5 o6 o7 o8 o9 o10 o11 o12 o13 o14 o15 o16 : Option Value} {o : Option Value} {t : List (Option Value)} {st : List Value} {x : Nat} (hp : znl o16 = true) (d : Dc cc pc (.astore 17) 2 pc') (hn : Nat.blt 17 mi.2.1 = true) (k : V w mi cc L cb sb h pc' (o0 :: o1 :: o2 :: o3 :: o4 :: o5 :: o6 :: o7 :: o8 :: o9 :: o10 :: o11 :: o12 :: o13 :: o14 :: o15 :: o16 :: some (.ref x) :: t) st Q) : V w mi cc L cb sb h pc (o0 :: o1 :: o2 :: o3 :: o4 :: o5 :: o6 :: o7 :: o8 :: o9 :: o10 :: o11 :: o12 :: o13 :: o14 :: o15 :: o16 :: o :: t) (.ref x :: st) Q := by
  obtain ⟨d, rfl⟩ := d
  intro p l e R s m args below meth c H locs cells slots lsA F a1 a2 a3 a4 a5 a6 hl
  refine lv_astore F.1 F.2.1 d hl (Nat.le_of_ble_eq_true hn) rfl (fun ls' hl' => k p l e R s m args below meth c H locs cells slots ls' F a1 a2 a3 a4 a5 a6 (zls.set1 (lsA := lsA) hl' (fun j u hj => zstore 17 (o0 :: o1 :: o2 :: o3 :: o4 :: o5 :: o6 :: o7 :: o8 :: o9 :: o10 :: o11 :: o12 :: o13 :: o14 :: o15 :: o16 :: o :: t) j u (.ref x) rfl hj (fun q3 q1 y q2 => by
      obtain rfl : q3 = 16 := by omega
      have q4 : o16 = some y := Option.some.inj q2
      rw [← q4]; exact hp))))
theorem V_astoreN17 {w : Wd} {mi : Mi} {cc : ByteArray} {L cb sb : Nat} {h : Hp} {pc pc' : Nat} {Q : Outcome → Hp → Prop} {o0 o1 o2 o3 o4 o5 o6 o7 o8 o9 o10 o11 o12 o13 o14 o15 o16 : Option Value} {o : Option Value} {t : List (Option Value)} {st : List Value} (hp : znl o16 = true) (d : Dc cc pc (.astore 17) 2 pc') (hn : Nat.blt 17 mi.2.1 = true) (k : V w mi cc L cb sb h pc' (o0 :: o1 :: o2 :: o3 :: o4 :: o5 :: o6 :: o7 :: o8 :: o9 :: o10 :: o11 :: o12 :: o13 :: o14 :: o15 :: o16 :: some .null :: t) st Q) : V w mi cc L cb sb h pc (o0 :: o1 :: o2 :: o3 :: o4 :: o5 :: o6 :: o7 :: o8 :: o9 :: o10 :: o11 :: o12 :: o13 :: o14 :: o15 :: o16 :: o :: t) (.null :: st) Q := by
  obtain ⟨d, rfl⟩ := d
  intro p l e R s m args below meth c H locs cells slots lsA F a1 a2 a3 a4 a5 a6 hl
  refine lv_astoreN F.1 F.2.1 d hl (Nat.le_of_ble_eq_true hn) rfl (fun ls' hl' => k p l e R s m args below meth c H locs cells slots ls' F a1 a2 a3 a4 a5 a6 (zls.set1 (lsA := lsA) hl' (fun j u hj => zstore 17 (o0 :: o1 :: o2 :: o3 :: o4 :: o5 :: o6 :: o7 :: o8 :: o9 :: o10 :: o11 :: o12 :: o13 :: o14 :: o15 :: o16 :: o :: t) j u .null rfl hj (fun q3 q1 y q2 => by
      obtain rfl : q3 = 16 := by omega
      have q4 : o16 = some y := Option.some.inj q2
      rw [← q4]; exact hp))))
theorem V_astore17 {w : Wd} {mi : Mi} {cc : ByteArray} {L cb sb : Nat} {h : Hp} {pc pc' : Nat} {Q : Outcome → Hp → Prop} {o0 o1 o2 o3 o4 o5 o6 o7 o8 o9 o10 o11 o12 o13 o14 o15 o16 : Option Value} {o : Option Value} {t : List (Option Value)} {st : List Value} {x : Value} (hp : znl o16 = true) (d : Dc cc pc (.astore 17) 2 pc') (hn : Nat.blt 17 mi.2.1 = true) (hx : zrf x = true) (k : V w mi cc L cb sb h pc' (o0 :: o1 :: o2 :: o3 :: o4 :: o5 :: o6 :: o7 :: o8 :: o9 :: o10 :: o11 :: o12 :: o13 :: o14 :: o15 :: o16 :: some x :: t) st Q) : V w mi cc L cb sb h pc (o0 :: o1 :: o2 :: o3 :: o4 :: o5 :: o6 :: o7 :: o8 :: o9 :: o10 :: o11 :: o12 :: o13 :: o14 :: o15 :: o16 :: o :: t) (x :: st) Q := by
  cases x with
  | ref a => exact V_astoreR17 hp d hn k
  | null => exact V_astoreN17 hp d hn k
  | _ => exact absurd hx (by simp [zrf])
theorem V_iinc17 {w : Wd} {mi : Mi} {cc : ByteArray} {L cb sb : Nat} {h : Hp} {pc pc' : Nat} {Q : Outcome → Hp → Prop} {o0 o1 o2 o3 o4 o5 o6 o7 o8 o9 o10 o11 o12 o13 o14 o15 o16 : Option Value} {t : List (Option Value)} {st : List Value} {x v : Int32} {n : Int} (hp : znl o16 = true) (d : Dc cc pc (.iinc 17 n) 3 pc') (hn : Nat.blt 17 mi.2.1 = true) (hv : Int32.ofInt n = v) (k : V w mi cc L cb sb h pc' (o0 :: o1 :: o2 :: o3 :: o4 :: o5 :: o6 :: o7 :: o8 :: o9 :: o10 :: o11 :: o12 :: o13 :: o14 :: o15 :: o16 :: some (.int (x + v)) :: t) st Q) : V w mi cc L cb sb h pc (o0 :: o1 :: o2 :: o3 :: o4 :: o5 :: o6 :: o7 :: o8 :: o9 :: o10 :: o11 :: o12 :: o13 :: o14 :: o15 :: o16 :: some (.int x) :: t) st Q := by
  obtain ⟨d, rfl⟩ := d
  subst hv
  intro p l e R s m args below meth c H locs cells slots lsA F a1 a2 a3 a4 a5 a6 hl
  obtain ⟨kq, hk⟩ := List.mem_iff_getElem?.mp (zP_mem (b := 0) (i := 17) (v := .int x) (ls := (o0 :: o1 :: o2 :: o3 :: o4 :: o5 :: o6 :: o7 :: o8 :: o9 :: o10 :: o11 :: o12 :: o13 :: o14 :: o15 :: o16 :: some (.int x) :: t)) |>.mpr ⟨17, rfl, rfl⟩)
  refine lv_iinc F.1 F.2.1 d hl hk rfl (Nat.le_of_ble_eq_true hn) rfl (fun ls' hl' => k p l e R s m args below meth c H locs cells slots ls' F a1 a2 a3 a4 a5 a6 (zls.set1 (lsA := lsA) hl' (fun j u hj => zstore 17 (o0 :: o1 :: o2 :: o3 :: o4 :: o5 :: o6 :: o7 :: o8 :: o9 :: o10 :: o11 :: o12 :: o13 :: o14 :: o15 :: o16 :: some (.int x) :: t) j u (.int (x + Int32.ofInt n)) rfl hj (fun q3 q1 y q2 => by
      obtain rfl : q3 = 16 := by omega
      have q4 : o16 = some y := Option.some.inj q2
      rw [← q4]; exact hp))))
