section SUP
variable {w : Wd} {mi mi' : Mi} {cc cc' : ByteArray} {L L' cb sb cb' sb' n : Nat} {h h1 : Hp} {pc pc' idx k : Nat} {ls : List (Option Value)} {st st0 : List Value} {Q Q' : Outcome → Hp → Prop} {as : List Value}
/-- super.m(..) where the superclass has it of its own superclass -/
theorem V_invokesuperI {a : Nat} {x : MethodName} (d : Dc cc pc (.invokespecial idx) 3 pc') (lm : LM mi' cc' n) (l1 : Cond.methodLink mi.1.cls idx x ∈ lw_all) (l2 : Cond.sameMethod x.cls mi'.1.cls x.name x.desc ∈ lw_all) (l3 : Cond.superclass mi.1.cls x.cls ∈ lw_all) (l4 : Cond.instanceMethod mi'.1 ∈ lw_all) (l5 : Cond.superclass x.cls mi'.1.cls ∈ lw_all) (hnm : mi'.1 = ⟨mi'.1.cls, x.name, x.desc⟩) (hi : x.name ≠ "<init>") (ok : zok k = true) (ha : a < hZ h) (hk : zkd (hT h a) = k) (con : Con w mi' cc' L' cb' sb' (.ref a :: as) h Q') (hret : hRet Q') (hL : Nat.blt L' L = true) (hn : as.length = n) (hst : st0 = as.reverse ++ .ref a :: st) (hw : Nat.ble (st.map fun v => v.category).sum 8 = true)
    (kk : ∀ v h', Q' (.returned v) h' → V w mi cc L cb sb h' pc' ls (v.toList ++ st) Q) : V w mi cc L (cb + cb') (sb + sb') h pc ls st0 Q := by
  obtain ⟨d, hpc⟩ := d
  refine V_of_run (Q' := Q') hpc (fun p l e R s m args below meth c H locs cells slots lsA F a1 a3 a4 a5 a6 hl => ?_) kk
  obtain ⟨f1, f2, f3, -, -, f6, -, hK, -⟩ := id F
  obtain ⟨lm1, lm2, lm3, lm4, lm5⟩ := lm
  have hM := con.met lm1 hret l
  have hro := room_ok lm5 hL a3 a4
  have hws : ∀ wd ∈ ws_ mi'.1 cc' mi'.2.1 mi'.2.2.1, wd ∈ lw_all := fun wd hwd => (lw_meth lm2 wd hwd).1
  have hB : Back l R p e below s args mi'.1 3 8 (PreOf R cb' sb' (conP w (.ref a :: as) h)) (PostOf (conQ w Q') cb' sb' (fun q => w.H.size ≤ q)) := back_of (bytes := cc') (maxL := mi'.2.1) (ret := mi'.2.2.1) hM (conP_blind w (.ref a :: as) h) rfl rfl hro.1 hro.2 (fun wd hwd a' U hW => (hK.moved hW).1 wd (hws wd hwd) a') (by exact List.mem_cons_self) (fun a' U hW => (hK.moved hW).1 _ lm3 a')
  obtain ⟨cellB, g1, g2, g3⟩ := a1.recv hK ha hk ok
  obtain ⟨kB, hkB, -⟩ := Vm.findClass_spec g3
  intro T hTh X
  obtain ⟨mk, methM, hnamed, hmethM, hstM, habM⟩ := Cond.instanceMethod_spec (hK.hts args _ l4)
  obtain ⟨methM', cM, hmethM', -, -, -, -, -, -, hsigM⟩ := Cond.code_spec hnamed (hK.hts args _ lm2)
  cases hmethM.symm.trans hmethM'
  obtain ⟨ps, dk, kp, hps, hdk, hkp, hsuper, -, -, hnid⟩ := Cond.superclass_spec f6 (hK.hts args _ l3)
  obtain ⟨ps2, dk2, kp2, hps2, hdk2, hkp2, hsuper2, -, -, hnid2⟩ := Cond.superclass_spec hps (hK.hts args _ l5)
  have hn2 : s.methodNamed? ⟨mi'.1.cls, x.name, x.desc⟩ = some mk := by rw [← hnm]; exact hnamed
  have hpm : ps2 = mk.cls := Option.some.inj (hps2.symm.trans (findClass_of_methodNamed hnamed))
  have hsub : s.vm.isSubclass ps mk.cls = true := by
    rw [← hpm]
    have e1 : ∀ n, s.vm.isSubclassAux (n + 2) ps ps2 = true := fun n => by
      simp [Vm.isSubclassAux, hdk2, hsuper2]
    unfold Vm.isSubclass
    have hs9 : 0 < s.vm.classes.size := by
      have := (Array.getElem?_eq_some_iff.mp hdk2).1
      omega
    obtain ⟨n9, hn9⟩ : ∃ n9, s.vm.classes.size = n9 + 1 := ⟨s.vm.classes.size - 1, by omega⟩
    rw [hn9]
    exact e1 n9
  have hlen : as.length = methM.sig.parameters.length := by
    have h2 := lm4.2.2
    rw [hsigM] at h2
    rw [hn]
    exact (Option.some.inj h2).symm
  obtain ⟨vm₁, X₁, hstep₁⟩ := X.invokespecialUp f1 f6 (hK.hts args _ l1) (hK.hts args _ l2) hn2 hmethM hstM habM hi hdk hnid hps hsuper hsub (a := a) (cell := cellB) (by rw [hTh]; exact g1)
    (fun z q => by rw [q] at g2; cases g2) hkB (g := F0 m pc lsA st0) rfl (argsL := as) (rest := st) hlen hst (by rw [f2]; exact d)
  obtain ⟨v, ⟨U', l9, c9, s9⟩, X', ⟨g', mk', t, K, e1, e2, hq, q1, hKb, q2, q3⟩, hsteps⟩ := hB m meth c ⟨T.setVm vm₁, locs, cells, slots⟩ (F0 m pc lsA st) (.invokespecial idx) mk (Value.ref a :: as).toArray X₁ rfl (by rw [f3]; exact hl.1) (by rw [f2]; exact d) (rest_ok hw) (X₁.named hnamed) ⟨by omega, by omega, rfl, hK.moved X₁.warmed, by show RelH w h T.heap; rw [hTh]; exact a1⟩
  dsimp only [Pt.U, Pt.locs, Pt.cells, Pt.slots] at X' e1 e2 q1 q2 q3 hsteps
  subst q1; subst q2; subst q3
  exact ⟨v, (T.setVm vm₁).calling g' mk' (Value.ref a :: as).toArray, t, U', K, hTh, X', hKb, e1, hq, fun target hh => hstep₁ _ (by rw [doInvoke_state]; exact hsteps.trans hh)⟩
end SUP
section IFC
variable {w : Wd} {mi mi' : Mi} {cc cc' : ByteArray} {L L' cb sb cb' sb' n : Nat} {h h1 : Hp} {pc pc' idx k cnt : Nat} {ls : List (Option Value)} {st st0 : List Value} {Q Q' : Outcome → Hp → Prop} {as : List Value}
theorem V_of_run5 (hpc : pc + 5 = pc') (run : ∀ (p : Program) (l : Launch) (e : Env) (R : Room) (s : State) (m : MethodId) (args : Array Value) (below : List Frame) (meth : Method) (c : Code) (H : Heap) (locs : List Loc) (cells slots : Nat) (lsA : Array Slot),
    Fx w mi cc p s m meth c → RelH w h H → L ≤ R.frames → 64 * L ≤ R.locals → cells + cb' ≤ R.cells → slots + sb' ≤ R.slots → zls lsA mi.2.1 ls →
    va_Run5 p l e R s m args below meth c H locs cells slots cb' sb' (F0 m pc lsA st0) st (fun _ o t => ∃ h', RelH w h' t.heap ∧ Q' o h') (fun q => w.H.size ≤ q))
    (kk : ∀ v h', Q' (.returned v) h' → V w mi cc L cb sb h' pc' ls (v.toList ++ st) Q) : V w mi cc L (cb + cb') (sb + sb') h pc ls st0 Q := by
  subst hpc
  intro p l e R s m args below meth c H locs cells slots lsA F a1 a2 a3 a4 a5 a6 hl T hT X
  obtain ⟨v, st₀, t, T', K, h0, X', hL, e1, -, ⟨h', r', q'⟩, go⟩ := run p l e R s m args below meth c H locs cells slots lsA F a1 a3 a4 (by omega) (by omega) hl T hT X
  obtain ⟨t2, b1, b2⟩ := kk v h' q' p l e R s m args below meth c t.heap (locs ++ K) (cells + cb') (slots + sb') lsA F r' (fun q hq => by
    rcases List.mem_append.mp hq with h1 | h1
    · exact a2 q h1
    · exact hL q h1) a3 a4 (by omega) (by omega) hl T' e1 X'
  exact ⟨t2, go t2 b1, b2⟩
/-- a call through an interface -/
theorem V_invokeinterface {a : Nat} {x : MethodName} (d : Dc cc pc (.invokeinterface idx cnt) 5 pc') (lm : LM mi' cc' n) (l1 : Cond.methodLink mi.1.cls idx x ∈ lw_all) (l2 : Cond.declares x ∈ lw_tbl) (l3 : Cond.interfaceMethod x.cls x.cls x.name x.desc ∈ lw_tbl) (l4 : Cond.selects (zcl k).1 x mi'.1 ∈ lw_all) (l5 : Cond.instanceMethod mi'.1 ∈ lw_all) (l6 : Cond.publicMethod mi'.1 ∈ lw_tbl) (l7 : Cond.unhidden (zcl k).1 x.name x.desc ∈ lw_tbl) (l8 : Cond.castable (zcl k).1 x.cls ∈ lw_tbl)
    (hx : x.cls ≠ "java/lang/invoke/MethodHandle" ∧ x.cls ≠ "java/lang/invoke/VarHandle") (hxd : x.desc = mi'.1.desc) (ok : zok k = true) (ha : a < hZ h) (hk : zkd (hT h a) = k) (con : Con w mi' cc' L' cb' sb' (.ref a :: as) h Q') (hret : hRet Q') (hL : Nat.blt L' L = true) (hn : as.length = n) (hst : st0 = as.reverse ++ .ref a :: st) (hw : Nat.ble (st.map fun v => v.category).sum 8 = true)
    (kk : ∀ v h', Q' (.returned v) h' → V w mi cc L cb sb h' pc' ls (v.toList ++ st) Q) : V w mi cc L (cb + cb') (sb + sb') h pc ls st0 Q := by
  obtain ⟨d, hpc⟩ := d
  refine V_of_run5 (Q' := Q') hpc (fun p l e R s m args below meth c H locs cells slots lsA F a1 a3 a4 a5 a6 hl => ?_) kk
  obtain ⟨f1, f2, f3, -, -, f6, -, hK, -⟩ := id F
  obtain ⟨lm1, lm2, lm3, lm4, lm5⟩ := lm
  have hU : ∀ wd ∈ ([.methodLink mi.1.cls idx x, .selects (zcl k).1 x mi'.1, .instanceMethod mi'.1, .initialized mi'.1.cls] : List Cond), wd ∈ lw_all := by
    intro wd hw
    simp only [List.mem_cons, List.not_mem_nil, or_false] at hw
    rcases hw with e | e | e | e <;> rw [e] <;> assumption
  have hF : va_Fw (zcl k).1 x mi'.1 s := ⟨hK.2.1 _ l2 rfl, hK.2.1 _ l3 rfl, hK.2.1 _ l6 rfl, hK.2.1 _ l7 rfl, hK.2.1 _ l8 rfl⟩
  exact va_runF (hK.2.2.1 k ok).2 ⟨f1, f2, f3, f6, hK.hts args⟩ (con.met lm1 hret l) (va_cwF n (hK.hts args) (lw_app hU (lw_meth lm2)) rfl rfl rfl hF ⟨hx.1, hx.2, by rw [hxd]; exact lm4.2.2⟩ (room_ok lm5 hL a3 a4)) ⟨conP_blind w (.ref a :: as) h, a1.recv hK ha hk ok, fun U hU hW => ⟨rfl, hK.moved hW, by rw [hU]; exact a1⟩⟩ rfl hn hl.1 hst (rest_ok hw) d ⟨a5, a6⟩
theorem zsel9 {s : State} {args : Array Value} {C : String} (h1 : (Cond.selects C ⟨"java/lang/Object", "getClass", "()Ljava/lang/Class;"⟩ ⟨"java/lang/Object", "getClass", "()Ljava/lang/Class;"⟩).before args s = true) (h2 : (Cond.interfaceMethod "java/util/Collection" "java/lang/Object" "getClass" "()Ljava/lang/Class;").before args s = true) : (Cond.selects C ⟨"java/util/Collection", "getClass", "()Ljava/lang/Class;"⟩ ⟨"java/lang/Object", "getClass", "()Ljava/lang/Class;"⟩).before args s = true := by
  obtain ⟨c, r, m, q1, q2, q3, q4, mk, q5, q6⟩ := Cond.selects_spec h1
  obtain ⟨cL, kL, m2, -, -, -, hf, hn⟩ := Cond.interfaceMethod_spec h2
  cases q3.symm.trans hn
  have e1 : s.methodFound? "java/lang/Object" "getClass" "()Ljava/lang/Class;" = some m := State.methodFound?_of_named hn (by decide)
  cases q2.symm.trans e1
  simp [Cond.before, Cond.holds, Cond.value, q1, hf, q3, q4, q5, q6]
/-- getClass() of an ArrayList, through Collection -/
theorem V_getCI {a : Nat} (d : Dc cc pc (.invokeinterface idx cnt) 5 pc') (l1 : Cond.methodLink mi.1.cls idx ⟨"java/util/Collection", "getClass", "()Ljava/lang/Class;"⟩ ∈ lw_all) (l2 : Cond.declares ⟨"java/lang/Object", "getClass", "()Ljava/lang/Class;"⟩ ∈ lw_tbl) (l3 : Cond.interfaceMethod "java/util/Collection" "java/lang/Object" "getClass" "()Ljava/lang/Class;" ∈ lw_tbl) (l4 : Cond.selects "java/util/ArrayList" ⟨"java/lang/Object", "getClass", "()Ljava/lang/Class;"⟩ ⟨"java/lang/Object", "getClass", "()Ljava/lang/Class;"⟩ ∈ lw_all) (l5 : Cond.instanceMethod ⟨"java/lang/Object", "getClass", "()Ljava/lang/Class;"⟩ ∈ lw_all)
    (l6 : Cond.publicMethod ⟨"java/lang/Object", "getClass", "()Ljava/lang/Class;"⟩ ∈ lw_tbl) (l7 : Cond.unhidden "java/util/ArrayList" "getClass" "()Ljava/lang/Class;" ∈ lw_tbl) (l8 : Cond.castable "java/util/ArrayList" "java/util/Collection" ∈ lw_tbl) (l9 : Cond.native ⟨"java/lang/Object", "getClass", "()Ljava/lang/Class;"⟩ ∈ lw_all)
    (ha : a < hZ h) (hk : zkd (hT h a) = 30) (hLv : Nat.blt 0 L = true) (hw : Nat.ble (st.map fun v => v.category).sum 8 = true)
    (kk : V w mi cc L cb sb h pc' ls (va_rf (some (w.K 3)) :: st) Q) : V w mi cc L cb sb h pc ls (.ref a :: st) Q := by
  obtain ⟨d, rfl⟩ := d
  intro p l e R s m args below meth c H locs cells slots lsA F a1 a2 a3 a4 a5 a6 hl T hTh X
  obtain ⟨f1, f2, f3, -, -, f6, -, hK, -⟩ := id F
  obtain ⟨cellB, g1, g2, g3⟩ := a1.recv hK ha hk (by decide)
  have g3' : s.vm.findClass "java/util/ArrayList" = some cellB.cls := g3
  obtain ⟨c0, k0, y1, y2, y3⟩ := hK.2.2.2.2.2.2.1
  have y1' : s.vm.findClass "java/util/ArrayList" = some c0 := y1
  cases g3'.symm.trans y1'
  have hL1 : 1 ≤ L := Nat.le_of_ble_eq_true hLv
  have hw8 := Nat.le_of_ble_eq_true hw
  have ub : ∀ wd ∈ lw_tbl, znest wd = true → wd.onTables = true → wd.before args s = true := fun wd q1 q2 q3 => va_Nw.use q3 (hK.2.1 wd q1 q2)
  obtain ⟨vm', X', st9⟩ := X.getClassOfI f1 (C := "java/util/ArrayList") (xi := ⟨"java/util/Collection", "getClass", "()Ljava/lang/Class;"⟩) f6 (hK.hts args _ l1) (ub _ l2 rfl rfl) (ub _ l3 rfl rfl) (zsel9 (hK.hts args _ l4) (ub _ l3 rfl rfl)) (hK.hts args _ l5) (ub _ l6 rfl rfl) (ub _ l7 rfl rfl) (ub _ l8 rfl rfl) (hK.hts args _ l9) (by decide) (by decide) rfl rfl
    y1' y2 ⟨cellB, by rw [hTh]; exact g1, rfl, g2⟩ y3 (g := F0 m pc lsA (.ref a :: st)) rfl (by rw [f3]; exact hl.1) rfl (by rw [f2]; exact d) (by omega) (by show 2 * 0 + _ + _ ≤ _; have hw9 : nativeFrameWords "java/lang/Object" "getClass" 1 = 3 := (by decide); omega)
  obtain ⟨t2, b1, b2⟩ := kk p l e R s m args below meth c H locs cells slots lsA F a1 a2 a3 a4 a5 a6 hl (T.setVm vm') hTh X'
  exact ⟨t2, st9 t2 b1, b2⟩
end IFC
/-! Object.equals: walked in its own frame (Object isn't said to be initialised: no contract of it can be called) -/
theorem zeqSteps {tb : Tables} {e : Env} {s target : State} {g : JFrame} {c : Code} {below : List Frame} (h : At s g.method c below) (hexec : tb.exec = Jvm.exec) {m : MethodId} {k : Class} {meth : Method} {code : Code} {a : Nat} {v : Value} {ig : Instr} {len : Nat} (acts : List Action)
    (hv : zrf v = true) (hk : s.vm.classes[m.cls]? = some k) (hn : k.name = "java/lang/Object") (hfin : e.platform.finalization = false) (hm : s.vm.method? m = some meth) (hc : meth.code = some code) (hbytes : code.code = cJ14_equals) (hml : code.maxLocals = 2) (hl : meth.locks = false) (hrt : meth.sig.returnType = some .boolean)
    (hroom : e.platform.stackFull (((s.setTop g).threads[(s.setTop g).cur]?).getD { frames := [] }) (s.setTop g).frames code.maxLocals = false) (hdg : decode c.code g.pc = .ok (ig, len))
    (hrest : Steps tb e below (s.setTop { g with pc := g.pc + len, stack := .int (if v = .ref a then 1 else 0) :: g.stack }) target) : Steps tb e below (doInvoke e (s.setTop g) acts m #[.ref a, v]).1 target := by
  rw [doInvoke_enter h.top acts hm hc hl hroom]
  have hf := frames_entered (g := g) h.top (.java (entryFrame m #[.ref a, v] code.maxLocals))
  obtain ⟨mid, hmid⟩ := h.above
  have hent : entryFrame m #[.ref a, v] code.maxLocals = { method := m, pc := 0, locals := #[.val (.ref a), .val v], stack := [], locked := none } := by
    rw [hml]
    cases v with
    | ref b => rfl
    | null => rfl
    | _ => cases hv
  have hU : ∀ f : JFrame, f.method = m → (match decode code.code f.pc with
      | .ok (i, len) => wpRun (tb.exec i)
          (fun _ s₁ _ => ∀ acts, Steps tb e below (afterInstr e len (.ok () s₁ acts)).1 target)
          (fun x s₁ _ => ∀ acts, Steps tb e below (afterInstr e len (.ctl x s₁ acts)).1 target) e (((s.setTop g).pushFrame (.java (entryFrame m #[.ref a, v] code.maxLocals))).setTop f)
      | .error _ => False) → Steps tb e below (((s.setTop g).pushFrame (.java (entryFrame m #[.ref a, v] code.maxLocals))).setTop f) target := by
    intro f hfm hw
    exact Steps.instrOv (c := code) (by rw [State.topJava?_of_frames hf]; rfl) ⟨.java g :: mid, by rw [hf, List.tail_cons, hmid]; rfl⟩ h.running (by simpa using h.runnable) (by simpa using h.alone)
      (by rw [State.code?_eq, hfm]; simp [State.pushFrame, State.setFrames, hm, hc]) (overridden_object tb (k := k) (by rw [hfm]; simpa [State.pushFrame, State.setFrames] using hk) hn hfin) hw
  have htop : ((s.setTop g).pushFrame (.java (entryFrame m #[.ref a, v] code.maxLocals))).topJava?.isSome := by rw [State.topJava?_of_frames hf]; rfl
  generalize hUe : (s.setTop g).pushFrame (.java (entryFrame m #[.ref a, v] code.maxLocals)) = U at hU htop hf ⊢
  have d0 : decode cJ14_equals 0 = .ok (.aload_n 0, 1) := eJ14_equals_0.1
  have d1 : decode cJ14_equals 1 = .ok (.aload_n 1, 1) := eJ14_equals_1.1
  have d2 : decode cJ14_equals 2 = .ok (.if_acmp .ne 7, 3) := by decide +kernel
  have d5 : decode cJ14_equals 5 = .ok (.iconst 1, 1) := by decide +kernel
  have d6 : decode cJ14_equals 6 = .ok (.goto 4, 3) := by decide +kernel
  have d9 : decode cJ14_equals 9 = .ok (.iconst 0, 1) := by decide +kernel
  have d10 : decode cJ14_equals 10 = .ok (.ireturn, 1) := by decide +kernel
  have hmU : U.vm.method? m = some meth := by rw [← hUe]; simpa [State.pushFrame, State.setFrames] using hm
  have ret : ∀ (x : Int32), (x = 0 ∨ x = 1) → Steps tb e below (s.setTop { g with pc := g.pc + len, stack := .int x :: g.stack }) target → Steps tb e below (U.setTop { method := m, pc := 10, locals := #[.val (.ref a), .val v], stack := [.int x], locked := none }) target := by
    intro x hx hr
    refine hU { method := m, pc := 10, locals := #[.val (.ref a), .val v], stack := [.int x], locked := none } rfl ?_
    have hnx : narrow .boolean (.int x) = .int x := by rcases hx with rfl | rfl <;> decide
    simp [jvm, wpRun, exec, hexec, hbytes, d10, htop, hmU, hrt, hnx]
    intro acts'
    rw [doReturn_leave (g := g) (meth := meth) (cg := c) (ig := ig) (len := len) acts' hf hmU hl rfl rfl (by have := h.code; rw [State.code?_eq] at this ⊢; rw [← hUe]; simpa [State.pushFrame, State.setFrames] using this) hdg, ← hUe, setFrames_entered h.top, State.setTop_setTop]
    simpa using hr
  rw [hent]
  refine hU { method := m, pc := 0, locals := #[.val (.ref a), .val v], stack := [], locked := none } rfl ?_
  simp [jvm, wpRun, exec, hexec, hbytes, d0, htop, Walk.isRef_ref]
  refine hU { method := m, pc := 1, locals := #[.val (.ref a), .val v], stack := [.ref a], locked := none } rfl ?_
  cases v with
  | ref b =>
    simp [jvm, wpRun, exec, hexec, hbytes, d1, htop, Walk.isRef_ref]
    refine hU { method := m, pc := 2, locals := #[.val (.ref a), .val (.ref b)], stack := [.ref b, .ref a], locked := none } rfl ?_
    by_cases hab : a = b
    · subst hab
      simp [jvm, wpRun, exec, hexec, hbytes, d2, htop, Value.asRef?, Op.if_acmp.holds]
      refine hU { method := m, pc := 5, locals := #[.val (.ref a), .val (.ref a)], stack := [], locked := none } rfl ?_
      simp [jvm, wpRun, exec, hexec, hbytes, d5, htop]
      refine hU { method := m, pc := 6, locals := #[.val (.ref a), .val (.ref a)], stack := [.int 1], locked := none } rfl ?_
      simp [jvm, wpRun, exec, hexec, hbytes, d6, htop]
      exact ret 1 (Or.inr rfl) (by simpa using hrest)
    · have hba : ¬ b = a := fun q => hab q.symm
      simp [jvm, wpRun, exec, hexec, hbytes, d2, htop, Value.asRef?, Op.if_acmp.holds, hab]
      refine hU { method := m, pc := 9, locals := #[.val (.ref a), .val (.ref b)], stack := [], locked := none } rfl ?_
      simp [jvm, wpRun, exec, hexec, hbytes, d9, htop]
      exact ret 0 (Or.inl rfl) (by simpa [hba] using hrest)
  | null =>
    simp [jvm, wpRun, exec, hexec, hbytes, d1, htop, Walk.isRef_null]
    refine hU { method := m, pc := 2, locals := #[.val (.ref a), .val .null], stack := [.null, .ref a], locked := none } rfl ?_
    simp [jvm, wpRun, exec, hexec, hbytes, d2, htop, Value.asRef?, Op.if_acmp.holds]
    refine hU { method := m, pc := 9, locals := #[.val (.ref a), .val .null], stack := [], locked := none } rfl ?_
    simp [jvm, wpRun, exec, hexec, hbytes, d9, htop]
    exact ret 0 (Or.inl rfl) (by simpa using hrest)
  | _ => cases hv
section EQ9
variable {w : Wd} {mi : Mi} {cc : ByteArray} {L cb sb : Nat} {h : Hp} {pc pc' idx k : Nat} {ls : List (Option Value)} {st : List Value} {Q : Outcome → Hp → Prop}
def nOE : MethodName := ⟨"java/lang/Object", "equals", "(Ljava/lang/Object;)Z"⟩
theorem V_objequals {a : Nat} {r : Option Nat} (d : Dc cc pc (.invokevirtual idx) 3 pc') (l1 : Cond.methodLink mi.1.cls idx nOE ∈ lw_all) (l2 : Cond.instanceMethod nOE ∈ lw_all) (l3 : Cond.selects (zcl k).1 nOE nOE ∈ lw_all) (l4 : Cond.code nOE cJ14_equals 2 (some .boolean) ∈ lw_all) (ok : zok k = true) (ha : a < hZ h) (hk : zkd (hT h a) = k) (hL : Nat.blt 0 L = true) (hw : Nat.ble (st.map fun v => v.category).sum 8 = true)
    (kk : V w mi cc L cb sb h pc' ls (.int (if r = some a then 1 else 0) :: st) Q) : V w mi cc L cb sb h pc ls (va_rf r :: .ref a :: st) Q := by
  obtain ⟨d, rfl⟩ := d
  intro p l e R s m args below meth c H locs cells slots lsA F a1 a2 a3 a4 a5 a6 hl T hTh X
  obtain ⟨f1, f2, f3, -, -, f6, -, hK, -⟩ := id F
  obtain ⟨cellB, g1, g2, g3⟩ := a1.recv hK ha hk ok
  obtain ⟨mk, methM, hnamed, hmethM, hstM, habM⟩ := Cond.instanceMethod_spec (hK.hts args _ l2)
  obtain ⟨methM', cM, hmethM', hcM, hbM, hlM, hrM, hlkM, -, hsigM⟩ := Cond.code_spec hnamed (hK.hts args _ l4)
  cases hmethM.symm.trans hmethM'
  obtain ⟨c2, r2, m2, q1, q2, q3, q4, kP, hkP, hkPi⟩ := Cond.selects_spec (hK.hts args _ l3)
  cases g3.symm.trans q1
  cases (State.methodFound?_of_named hnamed (by decide)).symm.trans q2
  cases hnamed.symm.trans q3
  have hselP : selectMethod e.platform s.vm cellB.cls mk = .method mk := by rw [Launch.admits_selectMethod X.admits]; exact q4
  have hlen : [va_rf r].length = methM.sig.parameters.length := by
    have h2 : (parseMethodDescriptor nOE.desc).map (fun d => d.parameters.length) = some 1 := by decide +kernel
    rw [hsigM] at h2
    exact (Option.some.inj h2).symm
  obtain ⟨vm₁, X₁, hstep₁⟩ := X.invokevirtual f1 f6 (hK.hts args _ l1) hnamed hmethM hstM hkP hkPi (by decide) (a := a) (cell := cellB) (by rw [hTh]; exact g1)
    (fun z q => by rw [q] at g2; cases g2) hselP hmethM habM hkP hkPi (g := F0 m pc lsA (va_rf r :: .ref a :: st)) rfl (argsL := [va_rf r]) (rest := st) hlen rfl (by rw [f2]; exact d)
  have hsize : (F0 m pc lsA st).locals.size = c.maxLocals := by rw [f3]; exact hl.1
  have hL1 : 1 ≤ L := Nat.le_of_ble_eq_true hL
  have hw8 := Nat.le_of_ble_eq_true hw
  have hal : s.vm.Alike vm₁ := X₁.warmed.alike
  have hmT : (T.setVm vm₁).vm.method? mk = some methM := by rw [show (T.setVm vm₁).vm = vm₁ from rfl, hal.method?]; exact hmethM
  obtain ⟨kO, hkO, hnO⟩ := className_of_methodNamed hnamed
  obtain ⟨kO', hkO', heO⟩ := hal.2.2 _ _ hkO
  obtain ⟨t2, b1, b2⟩ := kk p l e R s m args below meth c H locs cells slots lsA F a1 a2 a3 a4 a5 a6 hl (T.setVm vm₁) hTh X₁
  refine ⟨t2, hstep₁ _ (fun acts => ?_), b2⟩
  have he : (if va_rf r = Value.ref a then (1 : Int32) else 0) = if r = some a then 1 else 0 := by
    cases r with
    | none => rfl
    | some b =>
      by_cases hb : b = a
      · subst hb; simp [va_rf]
      · have h2 : ¬ (some b = some a) := fun z => hb (Option.some.inj z)
        simp [va_rf, hb]
  exact zeqSteps (g := F0 m pc lsA st) X₁.here f1 acts (zrf_rf r) hkO' (by rw [heO]; exact hnO) (Launch.admits_finalization X₁.admits) hmT hcM hbM hlM hlkM hrM (X₁.notFull (g := F0 m pc lsA st) hsize (by omega) (by rw [hlM]; show 2 * 0 + (st.map fun v => v.category).sum + (2 + 11) ≤ R.locals; omega)) (by rw [f2]; exact d) (by rw [he]; exact b1)
end EQ9
/-! new long[n][n]: what the machine's row has to give (its law lies outside of what a part can import: it is carried as a premise MAp and shown in the last part) -/
def nw2 (h : Hp) (N : Nat) : Hp :=
  (fun b => if b = hZ h then 550 + 1000 * 34 else if hZ h < b ∧ b < hZ h + 1 + N then 150 + 1000 * 35 else hT h b,
   fun b => if hZ h ≤ b ∧ b < hZ h + 1 + N then N else hN h b,
   fun b => if hZ h ≤ b ∧ b < hZ h + 1 + N then (fun _ => 0) else hI h b,
   fun b => if hZ h ≤ b ∧ b < hZ h + 1 + N then (fun _ => 0) else hL h b,
   fun b => if b = hZ h then (fun j => if j < N then some (hZ h + 1 + j) else none) else if hZ h < b ∧ b < hZ h + 1 + N then (fun _ => none) else hR h b,
   hZ h + 1 + N)
def MAp (w : Wd) : Prop := ∀ {mi : Mi} {cc : ByteArray} {L cb sb : Nat} {h : Hp} {pc pc' idx : Nat} {ls : List (Option Value)} {st : List Value} {Q : Outcome → Hp → Prop} {n : Int32}, Dc cc pc (.multianewarray idx 2) 4 pc' → Cond.classLink mi.1.cls idx "[[J" ∈ lw_all → ¬ n < 0 → n.toNatClampNeg ≤ 100 →
  V w mi cc L cb sb (nw2 h n.toNatClampNeg) pc' ls (.ref (hZ h) :: st) Q → V w mi cc L (cb + (1 + n.toNatClampNeg)) (sb + (n.toNatClampNeg + n.toNatClampNeg * n.toNatClampNeg)) h pc ls (.int n :: .int n :: st) Q
def zma (n1 n2 : Int32) : M (Option Nat) := fun h => if ¬ n1 < 0 ∧ n2 = n1 ∧ n1.toNatClampNeg ≤ 100 then some (some (hZ h), nw2 h n1.toNatClampNeg, 1 + n1.toNatClampNeg, n1.toNatClampNeg + n1.toNatClampNeg * n1.toNatClampNeg) else none
theorem D_ma {w : Wd} {mi : Mi} {cc : ByteArray} {L : Nat} {h : Hp} {pc pc' idx : Nat} {ls : List (Option Value)} {st : List Value} {Q : Outcome → Hp → Prop} {β : Type} {x : β} {h1 : Hp} {c s : Nat} {n1 n2 : Int32} {G : Option Nat → M β} (hMA : MAp w) (d : Dc cc pc (.multianewarray idx 2) 4 pc') (l1 : Cond.classLink mi.1.cls idx "[[J" ∈ lw_all) (H : zbd (zma n1 n2) G h = some (x, h1, c, s))
    (kk : ∀ v h' c s, G v h' = some (x, h1, c, s) → V w mi cc L c s h' pc' ls (va_rf v :: st) Q) : V w mi cc L c s h pc ls (.int n2 :: .int n1 :: st) Q := by
  obtain ⟨a, h', c1, s1, c2, s2, e1, e2, rfl, rfl⟩ := zbd_ok H
  unfold zma at e1
  split at e1
  · rename_i q
    obtain ⟨q1, rfl, q3⟩ := q
    cases e1
    exact hMA d l1 q1 q3 (kk _ _ _ _ e2)
  · cases e1
