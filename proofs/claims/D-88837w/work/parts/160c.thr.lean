/-! exceptions: calls that throw, handlers -/
/-- an exception x flies through the method at pc -/
def VX (w : Wd) (mi : Mi) (cc : ByteArray) (L cb sb : Nat) (h : Hp) (pc : Nat) (ls : List (Option Value)) (x : Nat) (Q : Outcome → Hp → Prop) : Prop :=
  ∀ (p : Program) (l : Launch) (e : Env) (R : Room) (s : State) (m : MethodId) (args : Array Value) (below : List Frame) (meth : Method) (c : Code) (H : Heap) (locs : List Loc) (cells slots : Nat) (lsA : Array Slot) (st : List Value),
    Fx w mi cc p s m meth c → RelH w h H → (∀ q ∈ locs, w.H.size ≤ q.base) → L ≤ R.frames → 64 * L ≤ R.locals → cells + cb ≤ R.cells → slots + sb ≤ R.slots → zls lsA mi.2.1 ls →
    ∀ T : State, T.heap = H → Stand p l e R s m args below meth c T locs cells slots → ∃ t, Steps p.tables e below ((T.setTop (F0 m pc lsA st)).pushFrame (.throwing x)) t ∧ EQ w below s R Q t
section THR
variable {w : Wd} {mi mi' : Mi} {cc cc' : ByteArray} {L L' cb sb cb' sb' n : Nat} {h h1 : Hp} {pc pc' idx k : Nat} {ls : List (Option Value)} {st st0 : List Value} {Q : Outcome → Hp → Prop} {as : List Value}
theorem VX_out {x : Nat} (hh : mi.2.2.2 = []) (q : Q (.threw x) h) : VX w mi cc L cb sb h pc ls x Q := by
  intro p l e R s m args below meth c H locs cells slots lsA st F a1 a2 a3 a4 a5 a6 hl T hT X
  obtain ⟨f1, f2, -, f4, f5, -, -, -, f9⟩ := id F
  have hno : c.exceptionTable.toList = [] := by
    rw [hh] at f9
    exact List.map_eq_nil_iff.mp f9
  obtain ⟨b1, b2, b3, b4, b5⟩ := X.leaveThrown x (g := F0 m pc lsA st) rfl rfl rfl (fun x hx => by rw [hno] at hx; cases hx) f5
  refine ⟨_, b1, .threw x, b2, b3, ⟨h, ?_, q⟩, b4, locs, a2, b5.mono (by omega) (by omega)⟩
  show RelH w h T.heap
  rw [hT]
  exact a1
/-- a call that ends with an exception -/
theorem V_invokevirtualX {a x : Nat} (d : Dc cc pc (.invokevirtual idx) 3 pc') (lm : LM mi' cc' n) (l1 : Cond.methodLink mi.1.cls idx mi'.1 ∈ lw_all) (l2 : Cond.instanceMethod mi'.1 ∈ lw_all) (ok : zok k = true) (lc : mi'.1.cls = (zcl k).1) (l3 : Cond.selects (zcl k).1 mi'.1 mi'.1 ∈ lw_all) (ha : a < hZ h) (hk : zkd (hT h a) = k) (con : Con w mi' cc' L' cb' sb' (.ref a :: as) h (Ro (.threw x) h1)) (hL : Nat.blt L' L = true) (hn : as.length = n) (hst : st0 = as.reverse ++ .ref a :: st) (hw : Nat.ble (st.map fun v => v.category).sum 8 = true)
    (kx : VX w mi cc L cb sb h1 pc ls x Q) : V w mi cc L (cb + cb') (sb + sb') h pc ls st0 Q := by
  obtain ⟨d, rfl⟩ := d
  intro p l e R s m args below meth c H locs cells slots lsA F a1 a2 a3 a4 a5 a6 hl T hTh X
  obtain ⟨f1, f2, f3, -, -, f6, -, hK, -⟩ := id F
  obtain ⟨lm1, lm2, lm3, lm4, lm5⟩ := lm
  obtain ⟨cellB, g1, g2, g3⟩ := a1.recv hK ha hk ok
  obtain ⟨mk, methM, hnamed, hmethM, hstM, habM⟩ := Cond.instanceMethod_spec (hK.hts args _ l2)
  obtain ⟨methM', cM, hmethM', hcM, -, hlM, -, -, -, hsigM⟩ := Cond.code_spec hnamed (hK.hts args _ lm2)
  cases hmethM.symm.trans hmethM'
  obtain ⟨c2, r2, m2, q1, q2, q3, q4, kP, hkP, hkPi⟩ := Cond.selects_spec (hK.hts args _ l3)
  cases g3.symm.trans q1
  cases (State.methodFound?_of_named hnamed ⟨lm4.1, lm4.2.1⟩).symm.trans q2
  cases hnamed.symm.trans q3
  have hselP : selectMethod e.platform s.vm cellB.cls mk = .method mk := by rw [Launch.admits_selectMethod X.admits]; exact q4
  have hlen : as.length = methM.sig.parameters.length := by
    have h2 := lm4.2.2
    rw [hsigM] at h2
    rw [hn]
    exact (Option.some.inj h2).symm
  obtain ⟨vm₁, X₁, hstep₁⟩ := X.invokevirtual f1 f6 (hK.hts args _ l1) hnamed hmethM hstM hkP hkPi ⟨lm4.1, lm4.2.1⟩ (a := a) (cell := cellB) (by rw [hTh]; exact g1)
    (fun z q => by rw [q] at g2; cases g2) hselP hmethM habM hkP hkPi (g := F0 m pc lsA st0) rfl (argsL := as) (rest := st) hlen hst (by rw [f2]; exact d)
  have hsize : (F0 m pc lsA st).locals.size = c.maxLocals := by rw [f3]; exact hl.1
  have hn₁ : (T.setVm vm₁).methodNamed? mi'.1 = some mk := X₁.named hnamed
  have hW₁ : s.WarmedH vm₁ := X₁.warmed
  have tr : ∀ wd ∈ lw_all, wd.before ((Value.ref a :: as).toArray) (T.setVm vm₁) = true := fun wd hwd => (hK.moved (U := T.setVm vm₁) hW₁).1 wd hwd _
  obtain ⟨methY, cY, hmY, hcY, -, hlY, -, -, -, -⟩ := Cond.code_spec hn₁ (tr _ lm2)
  obtain ⟨kY, hkY, -⟩ := className_of_methodNamed hn₁
  have hinitY : kY.init = .initialized := Cond.initialized_spec (findClass_of_methodNamed hn₁) hkY (tr _ lm3)
  have hat : At (T.setVm vm₁) (F0 m pc lsA st).method c below := X₁.here
  have hro := room_ok lm5 hL a3 a4
  have con' := con l
  rw [if_pos lm1] at con'
  have happ := Spec.appliesLoose_calling (S := headSpec (Cond.code mi'.1 cc' mi'.2.1 mi'.2.2.1 :: lw_all) { frames := L', cells := cb', slots := sb', locals := 64 * L' }) (x := mi'.1) (g := F0 m pc lsA st) hat (by rw [f2]; exact d) hn₁ hkY hinitY
      (X₁.room_calling (g := F0 m pc lsA st) (R' := { frames := L', cells := cb', slots := sb', locals := 64 * L' }) hsize hmY hcY hro.1 (by rw [hlY]; show 2 * (F0 m pc lsA st).monitorRoom + (st.map fun v => v.category).sum + (mi'.2.1 + 11) + 64 * L' ≤ R.locals; have h9 : 2 * (F0 m pc lsA st).monitorRoom + (st.map fun v => v.category).sum ≤ 8 := rest_ok hw; omega) (show cells + cb' ≤ R.cells by omega) (show slots + sb' ≤ R.slots by omega)) (atoms_intro fun wd hwd => by
        rcases List.mem_cons.mp hwd with rfl | hwd
        · exact tr _ lm2
        · exact tr _ hwd)
  obtain ⟨mid, hmid⟩ := hat.above
  have hfr : ((T.setVm vm₁).setTop (F0 m pc lsA st)).frames = (.java (F0 m pc lsA st) :: mid) ++ below := by rw [State.frames_setTop' (F0 m pc lsA st) hat.top, hmid]; rfl
  obtain ⟨o, s₂, hsteps, -, hend, hq⟩ := Steps.callFree con' p X₁.admits X₁.cas X₁.clock (acts := []) hfr happ (conP_blind w (.ref a :: as) h _ _ _ _ ⟨rfl, hK.moved hW₁, by show RelH w h T.heap; rw [hTh]; exact a1⟩) trivial
  rw [State.frames_setTop' (F0 m pc lsA st) hat.top] at hend
  obtain ⟨⟨h', r', q1, q2⟩, hW₂, K, hKb, hsame⟩ := hq
  subst q1; subst q2
  have hfb : (.java (F0 m pc lsA st) :: ((T.setVm vm₁).frames).tail : List Frame) = .java (F0 m pc lsA st) :: below := by
    obtain ⟨g₀, hr⟩ := X₁.frames_eq
    rw [hr]; rfl
  rw [hfb] at hend
  obtain ⟨T', X', hW', hs', e9⟩ := X₁.outOfThrown (g := F0 m pc lsA st) rfl hend hW₂ hsame
  have hheap : T'.heap = s₂.heap := by rw [e9]; exact (throwing_heap T' _ _).symm
  obtain ⟨t2, b1, b2⟩ := kx p l e R s m args below meth c s₂.heap (locs ++ K) (cells + cb') (slots + sb') lsA st F r' (fun q hq => by
    rcases List.mem_append.mp hq with z | z
    · exact a2 q z
    · exact hKb q z) a3 a4 (by omega) (by omega) hl T' hheap X'
  rw [← e9] at b1
  exact ⟨t2, hstep₁ _ (fun acts => by rw [doInvoke_state]; exact hsteps.trans b1), b2⟩
/-- what the search for a handler gives where the first entry of the table takes the exception; the catch's class may have to be looked up -/
theorem zfind {e : Env} {U : State} {f : JFrame} {x : Nat} {meth : Method} {code : Code} (hm : U.vm.method? f.method = some meth) (hc : meth.code = some code) {en : ExceptionTableEntry} {tl : List ExceptionTableEntry} (hsp : code.exceptionTable.toList = en :: tl)
    (hx : covers en f.pc = true) (h0 : en.catchType ≠ 0) {cT : ClassId} {cell : Cell} (hl : U.vm.ClassLinks e.platform f.method.cls en.catchType cT) (hcell : U.heap[x]? = some cell) (hobj : ∀ k, cell.vm ≠ .statics k)
    {k1 k2 : Class} (hk1 : U.vm.classes[cell.cls]? = some k1) (hk2 : U.vm.classes[cT]? = some k2) (hfit : U.vm.assignable cell.cls cT = true) (Q' : Handler → Pre) (E : CtlPost) (dd : Bool) (acts : List Action) :
    wp (findHandler f x) Q' E e dd acts U ↔ Q' (.found en.handlerPc) dd acts (U.setVm (U.vm.noted f.method.cls en.catchType (.cls cT))) := by
  rw [W.findHandler_eq hm hc, hsp]
  simp only [covers] at hx
  obtain ⟨ha, ht⟩ := (resolveClass_links e.toSetting hl).op (op := VmOp.resolveClass f.method.cls en.catchType) rfl
  have hal : U.vm.Alike (U.vm.noted f.method.cls en.catchType (.cls cT)) := (Vm.Alike.refl U.vm).noted _ _ _
  obtain ⟨k1', hk1', -⟩ := hal.2.2 _ _ hk1
  obtain ⟨k2', hk2', -⟩ := hal.2.2 _ _ hk2
  have hfit' : (U.vm.noted f.method.cls en.catchType (.cls cT)).assignable cell.cls cT = true := by rw [hal.assignable]; exact hfit
  simp [findHandler.go, hx, h0, ha, ht, hcell, hobj, hk1', hk2', hfit', VmOp.dirties, VmOp.acts]
theorem VX_catch {x ps pe ph ct : Nat} {tl : List (Nat × Nat × Nat × Nat)} {nm : String} (hh : mi.2.2.2 = (ps, pe, ph, ct) :: tl) (h1 : Nat.ble ps pc = true) (h2 : Nat.blt pc pe = true) (h3 : Nat.blt 0 ct = true) (l1 : Cond.classLink mi.1.cls ct nm ∈ lw_all) (ok : zok k = true) (lc : (zcl k).1 = nm) (hx : x < hZ h) (hk : zkd (hT h x) = k)
    (kk : V w mi cc L cb sb h ph ls [va_rf (some x)] Q) : VX w mi cc L cb sb h pc ls x Q := by
  intro p l e R s m args below meth c H locs cells slots lsA st F a1 a2 a3 a4 a5 a6 hl T hTh X
  obtain ⟨f1, f2, f3, f4, f5, f6, -, hK, f9⟩ := id F
  rw [hh] at f9
  obtain ⟨en, tl2, hsp, he, -⟩ : ∃ en tl2, c.exceptionTable.toList = en :: tl2 ∧ (en.startPc, en.endPc, en.handlerPc, en.catchType) = (ps, pe, ph, ct) ∧ True := by
    cases hc : c.exceptionTable.toList with
    | nil => rw [hc] at f9; cases f9
    | cons en tl2 =>
      rw [hc, List.map_cons] at f9
      exact ⟨en, tl2, rfl, (List.cons.inj f9).1, trivial⟩
  cases he
  obtain ⟨cellB, g1, g2, g3⟩ := a1.recv hK hx hk ok
  have hpl : e.platform.magicAccessors = ({} : Platform).magicAccessors := by rw [X.admits.platform]
  obtain ⟨c', hc', hcl⟩ := Cond.classLink_spec f6 (hK.hts args _ l1) e.platform hpl
  rw [lc] at g3
  have hcc : cellB.cls = c' := Option.some.inj (g3.symm.trans hc')
  obtain ⟨dk, _, _, kt, hd, _, _, _, _, hkt, _, hopen⟩ := hcl.here
  have hcl₀ := X.warmed.classLinks hcl
  have hW' : s.WarmedH (T.vm.noted m.cls en.catchType (.cls c')) := X.warmed.noted hd hopen (State.rightAt_cls hcl)
  obtain ⟨kt', hkt', -⟩ := X.warmed.alike.2.2 _ _ hkt
  have hat : At T (F0 m pc lsA st).method c below := X.here
  obtain ⟨hgo, hwi⟩ := hat.throwing x
  have evm : ((T.setTop (F0 m pc lsA st)).pushFrame (.throwing x)).vm = T.vm := throwing_vm T _ _
  have ehp : ((T.setTop (F0 m pc lsA st)).pushFrame (.throwing x)).heap = T.heap := throwing_heap T _ _
  have hmT : T.vm.method? m = some meth := by rw [X.warmed.alike.method?]; exact X.method
  have hfind := zfind (e := e) (U := (T.setTop (F0 m pc lsA st)).pushFrame (.throwing x)) (f := F0 m pc lsA st) (x := x) (by rw [evm]; exact hmT) X.code hsp (by
    have z1 := Nat.le_of_ble_eq_true h1
    have z2 : pc < en.endPc := Nat.le_of_ble_eq_true h2
    simp only [covers, F0]
    simp [z1, z2]) (by have z3 : 0 < en.catchType := Nat.le_of_ble_eq_true h3; omega) (cT := c') (cell := cellB) (by rw [evm]; exact hcl₀) (by rw [ehp, hTh]; exact g1) (fun q hq => by rw [hq] at g2; cases g2) (by rw [evm, hcc]; exact hkt') (by rw [evm]; exact hkt') (by rw [hcc]; exact va_asg _ _)
  rw [evm] at hfind
  obtain ⟨t2, b1, b2⟩ := kk p l e R s m args below meth c H locs cells slots lsA F a1 a2 a3 a4 a5 a6 hl (T.setVm (T.vm.noted m.cls en.catchType (.cls c'))) hTh (X.noted hW')
  refine ⟨t2, ?_, b2⟩
  refine Steps.head hgo hwi ?_
  have hIs : (stepThrowing e ((T.setTop (F0 m pc lsA st)).pushFrame (.throwing x)) x (.java (F0 m pc lsA st) :: T.frames.tail)).1 = ((((T.setTop (F0 m pc lsA st)).pushFrame (.throwing x)).setVm (T.vm.noted m.cls en.catchType (.cls c'))).setFrames (.java { F0 m pc lsA st with pc := en.handlerPc, stack := [.ref x] } :: T.frames.tail)) := by
    simp only [stepThrowing, searchFrame, vmDo]
    generalize hr : Sem.go _ e false [] _ = res
    obtain ⟨as9, rfl, ha9⟩ := Sem.eq_ok_of hr (a := Handler.found en.handlerPc) (s' := ((T.setTop (F0 m pc lsA st)).pushFrame (.throwing x)).setVm (T.vm.noted m.cls en.catchType (.cls c'))) (acts' := []) (by simp [hfind])
    rfl
  rw [stepThread_throwing (frames_entered hat.top _), hIs]
  obtain ⟨g₀, hg⟩ := Option.isSome_iff_exists.mp hat.top
  obtain ⟨r, hr⟩ := State.topJava?_eq_some.mp hg
  have hr' : (T.setVm (T.vm.noted m.cls en.catchType (.cls c'))).frames = .java g₀ :: r := hr
  rw [State.setTop_of_frames _ hr'] at b1
  rw [hr, List.tail_cons]
  have e2 : ∀ (F1 F2 : List Frame), (((T.setFrames F1).setFrames F2).setVm (T.vm.noted m.cls en.catchType (.cls c'))) = ((T.setVm (T.vm.noted m.cls en.catchType (.cls c'))).setFrames F1).setFrames F2 := fun _ _ => rfl
  rw [State.pushFrame, State.setTop_of_frames _ hr, e2, State.setFrames_setFrames, State.setFrames_setFrames]
  exact b1
def oX {α : Type} (f : α → Outcome) : α ⊕ Nat → Outcome
  | .inl v => f v
  | .inr a => .threw a
def zsm {α β : Type} (r : α ⊕ Nat) (A : α → M β) (B : Nat → M β) : M β := match r with
  | .inl v => A v
  | .inr a => B a
theorem zlt {a b : Nat} (h : a < b) : Nat.blt a b = true := Nat.ble_eq_true_of_le h
theorem D_callXI {β : Type} {x : β} {c s : Nat} {m : M (Int32 ⊕ Nat)} {A : Int32 → M β} {B : Nat → M β} (H : zbd m (fun r => zsm r A B) h = some (x, h1, c, s))
    (run : ∀ v h' c1 s1, m h = some (.inl v, h', c1, s1) → ∀ cb sb, V w mi cc L cb sb h' pc' ls (.int v :: st) Q → V w mi cc L (cb + c1) (sb + s1) h pc ls st0 Q)
    (runx : ∀ a h' c1 s1, m h = some (.inr a, h', c1, s1) → ∀ cb sb, VX w mi cc L cb sb h' pc ls a Q → V w mi cc L (cb + c1) (sb + s1) h pc ls st0 Q)
    (kk : ∀ v h' c2 s2, A v h' = some (x, h1, c2, s2) → V w mi cc L c2 s2 h' pc' ls (.int v :: st) Q)
    (kx : ∀ a h' c2 s2, B a h' = some (x, h1, c2, s2) → VX w mi cc L c2 s2 h' pc ls a Q) : V w mi cc L c s h pc ls st0 Q := by
  obtain ⟨r, h', c1, s1, c2, s2, e1, e2, rfl, rfl⟩ := zbd_ok H
  cases r with
  | inl v => exact run _ _ _ _ e1 _ _ (kk _ _ _ _ e2)
  | inr a => exact runx _ _ _ _ e1 _ _ (kx _ _ _ _ e2)
theorem D_callXL {β : Type} {x : β} {c s : Nat} {m : M (Int64 ⊕ Nat)} {A : Int64 → M β} {B : Nat → M β} (H : zbd m (fun r => zsm r A B) h = some (x, h1, c, s))
    (run : ∀ v h' c1 s1, m h = some (.inl v, h', c1, s1) → ∀ cb sb, V w mi cc L cb sb h' pc' ls (.long v :: st) Q → V w mi cc L (cb + c1) (sb + s1) h pc ls st0 Q)
    (runx : ∀ a h' c1 s1, m h = some (.inr a, h', c1, s1) → ∀ cb sb, VX w mi cc L cb sb h' pc ls a Q → V w mi cc L (cb + c1) (sb + s1) h pc ls st0 Q)
    (kk : ∀ v h' c2 s2, A v h' = some (x, h1, c2, s2) → V w mi cc L c2 s2 h' pc' ls (.long v :: st) Q)
    (kx : ∀ a h' c2 s2, B a h' = some (x, h1, c2, s2) → VX w mi cc L c2 s2 h' pc ls a Q) : V w mi cc L c s h pc ls st0 Q := by
  obtain ⟨r, h', c1, s1, c2, s2, e1, e2, rfl, rfl⟩ := zbd_ok H
  cases r with
  | inl v => exact run _ _ _ _ e1 _ _ (kk _ _ _ _ e2)
  | inr a => exact runx _ _ _ _ e1 _ _ (kx _ _ _ _ e2)
theorem D_callXR {β : Type} {x : β} {c s : Nat} {m : M (Option Nat ⊕ Nat)} {A : Option Nat → M β} {B : Nat → M β} (H : zbd m (fun r => zsm r A B) h = some (x, h1, c, s))
    (run : ∀ v h' c1 s1, m h = some (.inl v, h', c1, s1) → ∀ cb sb, V w mi cc L cb sb h' pc' ls (va_rf v :: st) Q → V w mi cc L (cb + c1) (sb + s1) h pc ls st0 Q)
    (runx : ∀ a h' c1 s1, m h = some (.inr a, h', c1, s1) → ∀ cb sb, VX w mi cc L cb sb h' pc ls a Q → V w mi cc L (cb + c1) (sb + s1) h pc ls st0 Q)
    (kk : ∀ v h' c2 s2, A v h' = some (x, h1, c2, s2) → V w mi cc L c2 s2 h' pc' ls (va_rf v :: st) Q)
    (kx : ∀ a h' c2 s2, B a h' = some (x, h1, c2, s2) → VX w mi cc L c2 s2 h' pc ls a Q) : V w mi cc L c s h pc ls st0 Q := by
  obtain ⟨r, h', c1, s1, c2, s2, e1, e2, rfl, rfl⟩ := zbd_ok H
  cases r with
  | inl v => exact run _ _ _ _ e1 _ _ (kk _ _ _ _ e2)
  | inr a => exact runx _ _ _ _ e1 _ _ (kx _ _ _ _ e2)
theorem D_callXU {β : Type} {x : β} {c s : Nat} {m : M (Unit ⊕ Nat)} {A : Unit → M β} {B : Nat → M β} (H : zbd m (fun r => zsm r A B) h = some (x, h1, c, s))
    (run : ∀ v h' c1 s1, m h = some (.inl v, h', c1, s1) → ∀ cb sb, V w mi cc L cb sb h' pc' ls (st) Q → V w mi cc L (cb + c1) (sb + s1) h pc ls st0 Q)
    (runx : ∀ a h' c1 s1, m h = some (.inr a, h', c1, s1) → ∀ cb sb, VX w mi cc L cb sb h' pc ls a Q → V w mi cc L (cb + c1) (sb + s1) h pc ls st0 Q)
    (kk : ∀ v h' c2 s2, A v h' = some (x, h1, c2, s2) → V w mi cc L c2 s2 h' pc' ls (st) Q)
    (kx : ∀ a h' c2 s2, B a h' = some (x, h1, c2, s2) → VX w mi cc L c2 s2 h' pc ls a Q) : V w mi cc L c s h pc ls st0 Q := by
  obtain ⟨r, h', c1, s1, c2, s2, e1, e2, rfl, rfl⟩ := zbd_ok H
  cases r with
  | inl v => exact run _ _ _ _ e1 _ _ (kk _ _ _ _ e2)
  | inr a => exact runx _ _ _ _ e1 _ _ (kx _ _ _ _ e2)
end THR
/-- a thrown object of a kind -/
def zgx (k a : Nat) : M Unit := fun h => if a < hZ h ∧ zkd (hT h a) = k then some ((), h, 0, 0) else none
theorem zgx_ok {β : Type} {x : β} {h h1 : Hp} {c s k a : Nat} {G : Unit → M β} (H : zbd (zgx k a) G h = some (x, h1, c, s)) : (a < hZ h ∧ zkd (hT h a) = k) ∧ G () h = some (x, h1, c, s) := by
  obtain ⟨b, h', c1, s1, c2, s2, e1, e2, rfl, rfl⟩ := zbd_ok H
  unfold zgx at e1
  split at e1
  · rename_i q; cases e1; exact ⟨q, e2⟩
  · cases e1
