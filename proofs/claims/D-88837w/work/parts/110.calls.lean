/-! calls -/
def conP (w : Wd) (args : List Value) (h : Hp) : Array Value → State → Prop := fun a U => a = args.toArray ∧ Kn w U ∧ RelH w h U.heap
def conQ (w : Wd) (Q : Outcome → Hp → Prop) : Array Value → State → Outcome → State → Prop := fun _ _ o t => ∃ h', RelH w h' t.heap ∧ Q o h'
theorem conP_blind (w : Wd) (args : List Value) (h : Hp) : FrameBlind (conP w args h) := fun a U g mk q => ⟨q.1, q.2.1.moved (State.WarmedH.refl U), q.2.2⟩
theorem Con.met {w : Wd} {mi : Mi} {cc : ByteArray} {L cb sb : Nat} {args : List Value} {h : Hp} {Q : Outcome → Hp → Prop} (hc : Con w mi cc L cb sb args h Q) (hh : mi.2.2.2 = []) (hret : ∀ o h', Q o h' → ∃ v, o = .returned v) (l : Launch) :
    Met l mi.1 (ws_ mi.1 cc mi.2.1 mi.2.2.1) { frames := L, cells := cb, slots := sb, locals := 64 * L } (conP w args h) (conQ w Q) cb sb (fun q => w.H.size ≤ q) := by
  have h1 := hc l
  rw [if_pos hh] at h1
  intro p e ha hcas hclk s m a below hf happ hP hK
  obtain ⟨n, o, b1, b2, b3, b4, b5, K, b6, b7⟩ := h1 p e ha hcas hclk s m a below hf happ hP hK
  obtain ⟨h', r', q'⟩ := b4
  exact ⟨n, o, b1, b2, b3, ⟨h', r', q'⟩, K, ⟨hret _ _ q', b5, b7⟩, b6⟩
section CALLS
variable {w : Wd} {mi mi' : Mi} {cc cc' : ByteArray} {L L' cb sb cb' sb' n : Nat} {h : Hp} {pc pc' idx k : Nat} {ls : List (Option Value)} {st st0 : List Value} {Q Q' : Outcome → Hp → Prop} {as : List Value}
theorem V_of_run (hpc : pc + 3 = pc') (run : ∀ (p : Program) (l : Launch) (e : Env) (R : Room) (s : State) (m : MethodId) (args : Array Value) (below : List Frame) (meth : Method) (c : Code) (H : Heap) (locs : List Loc) (cells slots : Nat) (lsA : Array Slot),
    Fx w mi cc p s m meth c → RelH w h H → L ≤ R.frames → 64 * L ≤ R.locals → cells + cb' ≤ R.cells → slots + sb' ≤ R.slots → zls lsA mi.2.1 ls →
    CallRun p l e R s m args below meth c H locs cells slots cb' sb' (F0 m pc lsA st0) st (fun _ o t => ∃ h', RelH w h' t.heap ∧ Q' o h') (fun q => w.H.size ≤ q))
    (kk : ∀ v h', Q' (.returned v) h' → V w mi cc L cb sb h' pc' ls (v.toList ++ st) Q) : V w mi cc L (cb + cb') (sb + sb') h pc ls st0 Q := by
  subst hpc
  intro p l e R s m args below meth c H locs cells slots lsA F a1 a2 a3 a4 a5 a6 hl T hT X
  obtain ⟨v, st₀, t, T', K, h0, X', hL, e1, ⟨h', r', q'⟩, go⟩ := run p l e R s m args below meth c H locs cells slots lsA F a1 a3 a4 (by omega) (by omega) hl T hT X
  obtain ⟨t2, b1, b2⟩ := kk v h' q' p l e R s m args below meth c t.heap (locs ++ K) (cells + cb') (slots + sb') lsA F r' (fun q hq => by
    rcases List.mem_append.mp hq with h1 | h1
    · exact a2 q h1
    · exact hL q h1) a3 a4 (by omega) (by omega) hl T' e1 X'
  exact ⟨t2, go t2 b1, b2⟩
/-- what every callee has: no handlers, its code among the words, its class, how many parameters -/
def LM (mi : Mi) (cc : ByteArray) (n : Nat) : Prop := mi.2.2.2 = [] ∧ Cond.code mi.1 cc mi.2.1 mi.2.2.1 ∈ lw_all ∧ Cond.initialized mi.1.cls ∈ lw_all ∧ (mi.1.cls ≠ "java/lang/invoke/MethodHandle" ∧ mi.1.cls ≠ "java/lang/invoke/VarHandle" ∧ (parseMethodDescriptor mi.1.desc).map (fun d => d.parameters.length) = some n) ∧ Nat.ble mi.2.1 45 = true
def hRet (Q : Outcome → Hp → Prop) : Prop := ∀ o h', Q o h' → ∃ v, o = .returned v
theorem room_ok {m1 L L' : Nat} {R : Room} (h1 : Nat.ble m1 45 = true) (h2 : Nat.blt L' L = true) (h3 : L ≤ R.frames) (h4 : 64 * L ≤ R.locals) : L' + 1 ≤ R.frames ∧ 8 + (m1 + 11) + 64 * L' ≤ R.locals := by
  have := Nat.le_of_ble_eq_true h1
  have h5 : L' + 1 ≤ L := Nat.le_of_ble_eq_true h2
  omega
theorem rest_ok {m : MethodId} {pc : Nat} {lsA : Array Slot} {st0 st : List Value} (hw : Nat.ble (st.map fun v => v.category).sum 8 = true) : 2 * (F0 m pc lsA st0).monitorRoom + (st.map fun v => v.category).sum ≤ 8 := lv_room (Nat.le_of_ble_eq_true hw)
theorem V_invokestatic (d : Dc cc pc (.invokestatic idx) 3 pc') (lm : LM mi' cc' n) (l1 : Cond.methodLink mi.1.cls idx mi'.1 ∈ lw_all) (l2 : Cond.static mi'.1 ∈ lw_all) (con : Con w mi' cc' L' cb' sb' as h Q') (hret : hRet Q') (hL : Nat.blt L' L = true) (hn : as.length = n) (hst : st0 = as.reverse ++ st) (hw : Nat.ble (st.map fun v => v.category).sum 8 = true)
    (kk : ∀ v h', Q' (.returned v) h' → V w mi cc L cb sb h' pc' ls (v.toList ++ st) Q) : V w mi cc L (cb + cb') (sb + sb') h pc ls st0 Q := by
  obtain ⟨d, hpc⟩ := d
  refine V_of_run (Q' := Q') hpc (fun p l e R s m args below meth c H locs cells slots lsA F a1 a3 a4 a5 a6 hl => ?_) kk
  obtain ⟨f1, f2, f3, -, -, f6, -, hK, -⟩ := id F
  obtain ⟨lm1, lm2, lm3, lm4, lm5⟩ := lm
  exact va_Run.run (va_runS ⟨f1, f2, f3, f6, hK.hts args⟩ (con.met lm1 hret l) (va_cwS n (hK.hts args) (lw_S l1 l2 lm3 lm2) rfl rfl rfl lm4 (room_ok lm5 hL a3 a4)) ⟨conP_blind w as h, fun U hU hW => ⟨rfl, hK.moved hW, by rw [hU]; exact a1⟩⟩ rfl hn hl.1 hst (rest_ok hw) d ⟨a5, a6⟩)
theorem RelH.recv {H : Heap} {s : State} {a : Nat} (r : RelH w h H) (hK : Kn w s) (ha : a < hZ h) (hk : zkd (hT h a) = k) (ok : zok k = true) : ∃ cell : Cell, H[a]? = some cell ∧ cell.vm.isStatics = false ∧ s.vm.findClass (zcl k).1 = some cell.cls := by
  obtain ⟨-, -, cell, q1, q2, q3, -⟩ := (r.2.2.2 a ha).1 (by rw [hk]; exact zok_lt ok)
  rw [hk] at q2
  exact ⟨cell, q1, by rw [q3]; rfl, by rw [q2]; exact (hK.2.2.1 k ok).2.1⟩
/-- a method of the receiver's own class -/
theorem V_invokevirtual {a : Nat} (d : Dc cc pc (.invokevirtual idx) 3 pc') (lm : LM mi' cc' n) (l1 : Cond.methodLink mi.1.cls idx mi'.1 ∈ lw_all) (l2 : Cond.instanceMethod mi'.1 ∈ lw_all) (ok : zok k = true) (lc : mi'.1.cls = (zcl k).1) (l3 : Cond.selects (zcl k).1 mi'.1 mi'.1 ∈ lw_all) (ha : a < hZ h) (hk : zkd (hT h a) = k) (con : Con w mi' cc' L' cb' sb' (.ref a :: as) h Q') (hret : hRet Q') (hL : Nat.blt L' L = true) (hn : as.length = n) (hst : st0 = as.reverse ++ .ref a :: st) (hw : Nat.ble (st.map fun v => v.category).sum 8 = true)
    (kk : ∀ v h', Q' (.returned v) h' → V w mi cc L cb sb h' pc' ls (v.toList ++ st) Q) : V w mi cc L (cb + cb') (sb + sb') h pc ls st0 Q := by
  obtain ⟨d, hpc⟩ := d
  refine V_of_run (Q' := Q') hpc (fun p l e R s m args below meth c H locs cells slots lsA F a1 a3 a4 a5 a6 hl => ?_) kk
  obtain ⟨f1, f2, f3, -, -, f6, -, hK, -⟩ := id F
  obtain ⟨lm1, lm2, lm3, lm4, lm5⟩ := lm
  rw [lc] at lm3
  exact va_Run.run (va_runV ⟨f1, f2, f3, f6, hK.hts args⟩ (con.met lm1 hret l) (cwV n (hK.hts args) (lw_V l1 l2 l3 lm3 lm2) rfl rfl rfl ⟨lc, lm4⟩ (room_ok lm5 hL a3 a4)) ⟨conP_blind w (.ref a :: as) h, a1.recv hK ha hk ok, fun U hU hW => ⟨rfl, hK.moved hW, by rw [hU]; exact a1⟩⟩ rfl hn hl.1 hst (rest_ok hw) d ⟨a5, a6⟩)
/-- a constructor -/
theorem V_invokeinit {a : Nat} (d : Dc cc pc (.invokespecial idx) 3 pc') (lm : LM mi' cc' n) (hv : mi'.2.2.1 = none) (hi : mi'.1.name = "<init>") (l1 : Cond.methodLink mi.1.cls idx mi'.1 ∈ lw_all) (l2 : Cond.instanceMethod mi'.1 ∈ lw_all) (con : Con w mi' cc' L' cb' sb' (.ref a :: as) h Q') (hret : hRet Q') (hL : Nat.blt L' L = true) (hn : as.length = n) (hst : st0 = as.reverse ++ .ref a :: st) (hw : Nat.ble (st.map fun v => v.category).sum 8 = true)
    (kk : ∀ v h', Q' (.returned v) h' → V w mi cc L cb sb h' pc' ls (v.toList ++ st) Q) : V w mi cc L (cb + cb') (sb + sb') h pc ls st0 Q := by
  obtain ⟨d, hpc⟩ := d
  refine V_of_run (Q' := Q') hpc (fun p l e R s m args below meth c H locs cells slots lsA F a1 a3 a4 a5 a6 hl => ?_) kk
  obtain ⟨f1, f2, f3, -, -, f6, -, hK, -⟩ := id F
  obtain ⟨lm1, lm2, lm3, lm4, lm5⟩ := lm
  have hm := con.met lm1 hret l
  rw [hv] at lm2 hm
  exact va_Run.run (va_runI ⟨f1, f2, f3, f6, hK.hts args⟩ hm (cwI n (hK.hts args) (lw_meth lm2) rfl rfl rfl (hK.hts args _ lm3) (hK.hts args _ l1) (hK.hts args _ l2) hi lm4 (room_ok lm5 hL a3 a4)) ⟨conP_blind w (.ref a :: as) h, fun U hU hW => ⟨rfl, hK.moved hW, by rw [hU]; exact a1⟩⟩ rfl hn hl.1 hst (rest_ok hw) d ⟨a5, a6⟩)
theorem V_objectinit {a : Nat} (d : Dc cc pc (.invokespecial idx) 3 pc') (l1 : Cond.methodLink mi.1.cls idx Lib.objectInit ∈ lw_all) (l2 : Cond.instanceMethod Lib.objectInit ∈ lw_all) (l3 : Cond.code Lib.objectInit ⟨#[0xb1]⟩ 1 none ∈ lw_all) (hL : Nat.blt 0 L = true) (hw : Nat.ble (st.map fun v => v.category).sum 8 = true) (kk : V w mi cc L cb sb h pc' ls st Q) : V w mi cc L cb sb h pc ls (.ref a :: st) Q := by
  obtain ⟨d, rfl⟩ := d
  intro p l e R s m args below meth c H locs cells slots lsA F a1 a2 a3 a4 a5 a6 hl
  have kw := kk p l e R s m args below meth c H locs cells slots lsA F a1 a2 a3 a4 a5 a6 hl
  obtain ⟨f1, f2, f3, -, -, f6, -, hK, -⟩ := id F
  have h1 : 1 ≤ L := Nat.le_of_ble_eq_true hL
  have h2 := Nat.le_of_ble_eq_true hw
  exact W.objInit f1 f2 f6 (hK.hts args _ l1) (hK.hts args _ l2) (hK.hts args _ l3) rfl (by rw [f3]; exact hl.1) rfl d (by omega) (by show 2 * 0 + _ + 12 ≤ _; omega) kw
/-- a method of a nest mate, private -/
theorem V_invokevirtualN {a : Nat} {host : String} (d : Dc cc pc (.invokevirtual idx) 3 pc') (lm : LM mi' cc' n) (l1 : Cond.methodLinkNest mi.1.cls idx mi'.1 host ∈ lw_tbl) (l2 : Cond.instanceMethod mi'.1 ∈ lw_all) (ok : zok k = true) (lc : mi'.1.cls = (zcl k).1) (l3 : Cond.selects (zcl k).1 mi'.1 mi'.1 ∈ lw_all) (ha : a < hZ h) (hk : zkd (hT h a) = k) (con : Con w mi' cc' L' cb' sb' (.ref a :: as) h Q') (hret : hRet Q') (hL : Nat.blt L' L = true) (hn : as.length = n) (hst : st0 = as.reverse ++ .ref a :: st) (hw : Nat.ble (st.map fun v => v.category).sum 8 = true)
    (kk : ∀ v h', Q' (.returned v) h' → V w mi cc L cb sb h' pc' ls (v.toList ++ st) Q) : V w mi cc L (cb + cb') (sb + sb') h pc ls st0 Q := by
  obtain ⟨d, hpc⟩ := d
  refine V_of_run (Q' := Q') hpc (fun p l e R s m args below meth c H locs cells slots lsA F a1 a3 a4 a5 a6 hl => ?_) kk
  obtain ⟨f1, f2, f3, -, -, f6, -, hK, -⟩ := id F
  obtain ⟨lm1, lm2, lm3, lm4, lm5⟩ := lm
  exact va_Run.run (va_runVN ⟨f1, f2, f3, f6, hK.hts args⟩ (con.met lm1 hret l) ⟨va_cnB n (hK.hts args) (lw_meth lm2) rfl rfl rfl (hK.2.1 _ l1 rfl) (hK.hts args _ lm3) lm4 (room_ok lm5 hL a3 a4), hK.hts args _ l2, hK.hts args _ l3⟩ ⟨conP_blind w (.ref a :: as) h, a1.recv hK ha hk ok, fun U hU hW => ⟨rfl, hK.moved hW, by rw [hU]; exact a1⟩⟩ rfl hn hl.1 hst (rest_ok hw) d ⟨a5, a6⟩)
theorem V_invokeinitN {a : Nat} {host : String} (d : Dc cc pc (.invokespecial idx) 3 pc') (lm : LM mi' cc' n) (hv : mi'.2.2.1 = none) (hi : mi'.1.name = "<init>") (l1 : Cond.methodLinkNest mi.1.cls idx mi'.1 host ∈ lw_tbl) (l2 : Cond.instanceMethod mi'.1 ∈ lw_all) (con : Con w mi' cc' L' cb' sb' (.ref a :: as) h Q') (hret : hRet Q') (hL : Nat.blt L' L = true) (hn : as.length = n) (hst : st0 = as.reverse ++ .ref a :: st) (hw : Nat.ble (st.map fun v => v.category).sum 8 = true)
    (kk : ∀ v h', Q' (.returned v) h' → V w mi cc L cb sb h' pc' ls (v.toList ++ st) Q) : V w mi cc L (cb + cb') (sb + sb') h pc ls st0 Q := by
  obtain ⟨d, hpc⟩ := d
  refine V_of_run (Q' := Q') hpc (fun p l e R s m args below meth c H locs cells slots lsA F a1 a3 a4 a5 a6 hl => ?_) kk
  obtain ⟨f1, f2, f3, -, -, f6, -, hK, -⟩ := id F
  obtain ⟨lm1, lm2, lm3, lm4, lm5⟩ := lm
  have hm := con.met lm1 hret l
  rw [hv] at lm2 hm
  exact va_Run.run (va_runIN ⟨f1, f2, f3, f6, hK.hts args⟩ hm ⟨va_cnB n (hK.hts args) (lw_meth lm2) rfl rfl rfl (hK.2.1 _ l1 rfl) (hK.hts args _ lm3) lm4 (room_ok lm5 hL a3 a4), hi, hK.hts args _ l2⟩ ⟨conP_blind w (.ref a :: as) h, fun U hU hW => ⟨rfl, hK.moved hW, by rw [hU]; exact a1⟩⟩ rfl hn hl.1 hst (rest_ok hw) d ⟨a5, a6⟩)
/-- a method picked by the receiver's class (inherited, or overriding, or of an abstract one): x is named, y is run -/
def LU (own : String) (idx k : Nat) (x y : MethodName) : Prop := ∃ owner : String, Cond.methodLink own idx x ∈ lw_all ∧ Cond.sameMethod x.cls owner x.name x.desc ∈ lw_all ∧ Cond.selects (zcl k).1 x y ∈ lw_all ∧ Cond.instanceMethod y ∈ lw_all ∧ Cond.initialized y.cls ∈ lw_all ∧ (owner ≠ "java/lang/invoke/MethodHandle" ∧ owner ≠ "java/lang/invoke/VarHandle") ∧ x.desc = y.desc ∧
  (y = ⟨owner, x.name, x.desc⟩ ∨ (Cond.instanceMethod ⟨owner, x.name, x.desc⟩ ∈ lw_all ∧ ∃ b0 m0 r0, Cond.code ⟨owner, x.name, x.desc⟩ b0 m0 r0 ∈ lw_all) ∨ Cond.declares ⟨owner, x.name, x.desc⟩ ∈ lw_tbl)
theorem V_invokevirtualU {a : Nat} {x : MethodName} (d : Dc cc pc (.invokevirtual idx) 3 pc') (lm : LM mi' cc' n) (lu : LU mi.1.cls idx k x mi'.1) (ok : zok k = true) (ha : a < hZ h) (hk : zkd (hT h a) = k) (con : Con w mi' cc' L' cb' sb' (.ref a :: as) h Q') (hret : hRet Q') (hL : Nat.blt L' L = true) (hn : as.length = n) (hst : st0 = as.reverse ++ .ref a :: st) (hw : Nat.ble (st.map fun v => v.category).sum 8 = true)
    (kk : ∀ v h', Q' (.returned v) h' → V w mi cc L cb sb h' pc' ls (v.toList ++ st) Q) : V w mi cc L (cb + cb') (sb + sb') h pc ls st0 Q := by
  obtain ⟨d, hpc⟩ := d
  refine V_of_run (Q' := Q') hpc (fun p l e R s m args below meth c H locs cells slots lsA F a1 a3 a4 a5 a6 hl => ?_) kk
  obtain ⟨f1, f2, f3, -, -, f6, -, hK, -⟩ := id F
  obtain ⟨lm1, lm2, lm3, lm4, lm5⟩ := lm
  obtain ⟨owner, u1, u2, u3, u4, u5, u6, u7, u8⟩ := lu
  have hU : ∀ wd ∈ ([.methodLink mi.1.cls idx x, .sameMethod x.cls owner x.name x.desc, .selects (zcl k).1 x mi'.1, .instanceMethod mi'.1, .initialized mi'.1.cls] : List Cond), wd ∈ lw_all := by
    intro wd hw
    simp only [List.mem_cons, List.not_mem_nil, or_false] at hw
    rcases hw with e | e | e | e | e <;> rw [e] <;> assumption
  have hd : owner ≠ "java/lang/invoke/MethodHandle" ∧ owner ≠ "java/lang/invoke/VarHandle" ∧ (parseMethodDescriptor x.desc).map (fun d => d.parameters.length) = some n := ⟨u6.1, u6.2, by rw [u7]; exact lm4.2.2⟩
  have hcw : va_CU R s args mi.1.cls (zcl k).1 owner idx x mi'.1 cc' mi'.2.1 mi'.2.2.1 (ws_ mi'.1 cc' mi'.2.1 mi'.2.2.1) { frames := L', cells := cb', slots := sb', locals := 64 * L' } cb' sb' n := by
    rcases u8 with u8 | ⟨u8, b0, m0, r0, u9⟩ | u8
    · exact va_cwU n (hK.hts args) (lw_app hU (lw_meth lm2)) rfl rfl rfl u8 hd (room_ok lm5 hL a3 a4)
    · refine va_cwO n (hK.hts args) (lw_app (fun wd hw => ?_) (lw_meth lm2)) rfl rfl rfl u9 hd (room_ok lm5 hL a3 a4)
      simp only [List.mem_cons, List.not_mem_nil, or_false] at hw
      rcases hw with e | e | e | e | e | e <;> rw [e] <;> assumption
    · exact va_cwA n (hK.hts args) (lw_app hU (lw_meth lm2)) rfl rfl rfl (hK.2.1 _ u8 rfl) hd (room_ok lm5 hL a3 a4)
  exact va_Run.run (va_runU ⟨f1, f2, f3, f6, hK.hts args⟩ (con.met lm1 hret l) hcw ⟨conP_blind w (.ref a :: as) h, a1.recv hK ha hk ok, fun U hU hW => ⟨rfl, hK.moved hW, by rw [hU]; exact a1⟩⟩ rfl hn hl.1 hst (rest_ok hw) d ⟨a5, a6⟩)
/-- a superclass's method -/
theorem V_invokesuper {a : Nat} (d : Dc cc pc (.invokespecial idx) 3 pc') (lm : LM mi' cc' n) (l1 : Cond.methodLink mi.1.cls idx mi'.1 ∈ lw_all) (l2 : Cond.sameMethod mi'.1.cls mi'.1.cls mi'.1.name mi'.1.desc ∈ lw_all) (l3 : Cond.superclass mi.1.cls mi'.1.cls ∈ lw_all) (l4 : Cond.instanceMethod mi'.1 ∈ lw_all) (hi : mi'.1.name ≠ "<init>") (ok : zok k = true) (ha : a < hZ h) (hk : zkd (hT h a) = k) (con : Con w mi' cc' L' cb' sb' (.ref a :: as) h Q') (hret : hRet Q') (hL : Nat.blt L' L = true) (hn : as.length = n) (hst : st0 = as.reverse ++ .ref a :: st) (hw : Nat.ble (st.map fun v => v.category).sum 8 = true)
    (kk : ∀ v h', Q' (.returned v) h' → V w mi cc L cb sb h' pc' ls (v.toList ++ st) Q) : V w mi cc L (cb + cb') (sb + sb') h pc ls st0 Q := by
  obtain ⟨d, hpc⟩ := d
  refine V_of_run (Q' := Q') hpc (fun p l e R s m args below meth c H locs cells slots lsA F a1 a3 a4 a5 a6 hl => ?_) kk
  obtain ⟨f1, f2, f3, -, -, f6, -, hK, -⟩ := id F
  obtain ⟨lm1, lm2, lm3, lm4, lm5⟩ := lm
  have hU : ∀ wd ∈ ([.methodLink mi.1.cls idx mi'.1, .sameMethod mi'.1.cls mi'.1.cls mi'.1.name mi'.1.desc, .superclass mi.1.cls mi'.1.cls, .instanceMethod mi'.1, .initialized mi'.1.cls] : List Cond), wd ∈ lw_all := by
    intro wd hw
    simp only [List.mem_cons, List.not_mem_nil, or_false] at hw
    rcases hw with e | e | e | e | e <;> rw [e] <;> assumption
  exact va_Run.run (va_runSU (hK.2.2.1 k ok).2 ⟨f1, f2, f3, f6, hK.hts args⟩ (con.met lm1 hret l) (va_cwSU n (hK.hts args) (lw_app hU (lw_meth lm2)) rfl rfl rfl ⟨hi, lm4.2.2⟩ (room_ok lm5 hL a3 a4)) ⟨conP_blind w (.ref a :: as) h, a1.recv hK ha hk ok, fun U hU hW => ⟨rfl, hK.moved hW, by rw [hU]; exact a1⟩⟩ rfl hn hl.1 hst (rest_ok hw) d ⟨a5, a6⟩)
/-! checkcast, instanceof -/
theorem V_checkcast {a : Nat} {nm : String} (d : Dc cc pc (.checkcast idx) 3 pc') (l1 : Cond.classLink mi.1.cls idx nm ∈ lw_all) (ok : zok k = true) (l2 : (zcl k).1 = nm ∨ Cond.castable (zcl k).1 nm ∈ lw_tbl) (ha : a < hZ h) (hk : zkd (hT h a) = k) (kk : V w mi cc L cb sb h pc' ls (.ref a :: st) Q) : V w mi cc L cb sb h pc ls (.ref a :: st) Q := by
  obtain ⟨d, rfl⟩ := d
  intro p l e R s m args below meth c H locs cells slots lsA F a1 a2 a3 a4 a5 a6 hl
  have kw := kk p l e R s m args below meth c H locs cells slots lsA F a1 a2 a3 a4 a5 a6 hl
  obtain ⟨f1, f2, f3, -, -, f6, -, hK, -⟩ := id F
  rcases l2 with l2 | l2
  · subst l2
    exact va_castS f1 f2 f6 (hK.hts args _ l1) (hK.2.2.1 k ok).2 (a1.recv hK ha hk ok) d kw
  · exact va_castY f1 f2 f6 (hK.hts args _ l1) (hK.2.1 _ l2 rfl) (a1.recv hK ha hk ok) d kw
theorem V_checkcastN (d : Dc cc pc (.checkcast idx) 3 pc') (kk : V w mi cc L cb sb h pc' ls (.null :: st) Q) : V w mi cc L cb sb h pc ls (.null :: st) Q := by
  obtain ⟨d, rfl⟩ := d
  exact V_pure (fun p l e R s m args below meth c H locs cells slots lsA Q' hx hb hl F kk => lv_castN hx hb d kk) kk
theorem V_instanceofY {a : Nat} {nm : String} (d : Dc cc pc (.instanceof idx) 3 pc') (l1 : Cond.classLink mi.1.cls idx nm ∈ lw_all) (ok : zok k = true) (l2 : (zcl k).1 = nm ∨ Cond.castable (zcl k).1 nm ∈ lw_tbl) (ha : a < hZ h) (hk : zkd (hT h a) = k) (kk : V w mi cc L cb sb h pc' ls (.int 1 :: st) Q) : V w mi cc L cb sb h pc ls (.ref a :: st) Q := by
  obtain ⟨d, rfl⟩ := d
  intro p l e R s m args below meth c H locs cells slots lsA F a1 a2 a3 a4 a5 a6 hl
  have kw := kk p l e R s m args below meth c H locs cells slots lsA F a1 a2 a3 a4 a5 a6 hl
  obtain ⟨f1, f2, f3, -, -, f6, -, hK, -⟩ := id F
  rcases l2 with l2 | l2
  · subst l2
    exact va_instS f1 f2 f6 (hK.hts args _ l1) (hK.2.2.1 k ok).2 (a1.recv hK ha hk ok) d kw
  · exact va_instY f1 f2 f6 (hK.hts args _ l1) (hK.2.1 _ l2 rfl) (a1.recv hK ha hk ok) d kw
theorem V_instanceofNo {a : Nat} {nm : String} (d : Dc cc pc (.instanceof idx) 3 pc') (l1 : Cond.classLink mi.1.cls idx nm ∈ lw_all) (ok : zok k = true) (l2 : ((zcl k).1, nm) ∈ zNC) (ha : a < hZ h) (hk : zkd (hT h a) = k) (kk : V w mi cc L cb sb h pc' ls (.int 0 :: st) Q) : V w mi cc L cb sb h pc ls (.ref a :: st) Q := by
  obtain ⟨d, rfl⟩ := d
  intro p l e R s m args below meth c H locs cells slots lsA F a1 a2 a3 a4 a5 a6 hl
  have kw := kk p l e R s m args below meth c H locs cells slots lsA F a1 a2 a3 a4 a5 a6 hl
  obtain ⟨f1, f2, f3, -, -, f6, -, hK, -⟩ := id F
  exact va_instNo f1 f2 f6 (hK.hts args _ l1) (hK.2.2.2.2.1 _ l2) (a1.recv hK ha hk ok) d kw
theorem V_instanceofN (d : Dc cc pc (.instanceof idx) 3 pc') (kk : V w mi cc L cb sb h pc' ls (.int 0 :: st) Q) : V w mi cc L cb sb h pc ls (.null :: st) Q := by
  obtain ⟨d, rfl⟩ := d
  exact V_pure (fun p l e R s m args below meth c H locs cells slots lsA Q' hx hb hl F kk => lv_instN hx hb d kk) kk
/-! budgets and ends may be weakened -/
theorem V.widen {cb1 sb1 : Nat} (h1 : cb ≤ cb1) (h2 : sb ≤ sb1) (kk : V w mi cc L cb sb h pc ls st Q) : V w mi cc L cb1 sb1 h pc ls st Q := by
  intro p l e R s m args below meth c H locs cells slots lsA F a1 a2 a3 a4 a5 a6 hl
  exact kk p l e R s m args below meth c H locs cells slots lsA F a1 a2 a3 a4 (by omega) (by omega) hl
theorem V.mono (hq : ∀ o h', Q o h' → Q' o h') (kk : V w mi cc L cb sb h pc ls st Q) : V w mi cc L cb sb h pc ls st Q' := by
  intro p l e R s m args below meth c H locs cells slots lsA F a1 a2 a3 a4 a5 a6 hl
  refine (kk p l e R s m args below meth c H locs cells slots lsA F a1 a2 a3 a4 a5 a6 hl).mono fun t ht => ?_
  obtain ⟨o, b1, b2, ⟨h', b3, b3'⟩, b4⟩ := ht
  exact ⟨o, b1, b2, ⟨h', b3, hq o h' b3'⟩, b4⟩
theorem V.locs {ls' : List (Option Value)} (hs : ∀ (i : Nat) (v : Value), ls'[i]? = some (some v) → ls[i]? = some (some v)) (kk : V w mi cc L cb sb h pc ls' st Q) : V w mi cc L cb sb h pc ls st Q := by
  intro p l e R s m args below meth c H locs cells slots lsA F a1 a2 a3 a4 a5 a6 hl
  exact kk p l e R s m args below meth c H locs cells slots lsA F a1 a2 a3 a4 a5 a6 (zls.sub hl (fun i v hi => zP_mem.mpr ⟨i, by omega, hs i v hi⟩))
theorem Con.mono (hq : ∀ o h', Q o h' → Q' o h') (kk : Con w mi cc L cb sb as h Q) : Con w mi cc L cb sb as h Q' := by
  intro l p e ha hcas hclk s m a below hf happ hP hK
  obtain ⟨n, o, b1, b2, b3, ⟨h', b4, b4'⟩, b5⟩ := kk l p e ha hcas hclk s m a below hf happ hP hK
  exact ⟨n, o, b1, b2, b3, ⟨h', b4, hq o h' b4'⟩, b5⟩
end CALLS
/-- above the top there is nothing -/
theorem V_wf {w : Wd} {mi : Mi} {cc : ByteArray} {L cb sb : Nat} {h : Hp} {pc : Nat} {ls : List (Option Value)} {st : List Value} {Q : Outcome → Hp → Prop} (kk : (∀ b, hZ h ≤ b → hT h b = 999) → V w mi cc L cb sb h pc ls st Q) : V w mi cc L cb sb h pc ls st Q := by
  intro p l e R s m args below meth c H locs cells slots lsA F a1 a2 a3 a4 a5 a6 hl
  exact kk a1.2.2.1.2 p l e R s m args below meth c H locs cells slots lsA F a1 a2 a3 a4 a5 a6 hl
